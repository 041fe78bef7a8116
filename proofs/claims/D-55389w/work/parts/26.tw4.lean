/-! THE REFERENCE, fourth part: keeps; stocks, querns, batches, jars; printed by tools/tw4.py -/
set_option maxRecDepth 100000
theorem t_keepsG0 {G : GG} {h : AH} {a : Nat} {g : Nat → Int32} {S : Nat → Nat → Int32} {V : Nat → Int32} (T : Tw h a) (hw : V 33 = 1) : Cal G kX5_keeps 1 0 0 [.ref a, .ref (a + 1)] (twh h a g S V) (rV (twh h a g S (upd V 34 0))) := by
  refine Cal.of (by decide +kernel) (Nat.le_of_ble_eq_true rfl) (fun c => ?_)
  refine x_aload_n dX5_keeps_0 rfl rfl ?_
  refine x_iconst (nI 0) dX5_keeps_1 (by decide) ?_
  refine tp_code T (.inl q2090) dX5_keeps_2 ?_
  refine x_aload_n dX5_keeps_5 rfl rfl ?_
  refine tg_isWithin T (.inl q2089) dX5_keeps_6 ?_
  refine x_val (show upd V 34 (nI 0) 33 = 1 from (pk_un (by decide)).trans hw) ?_
  refine x_if_eq 13 dX5_keeps_9 (by decide) (fun z => absurd z (by decide)) (fun _ => ?_)
  refine x_vret rfl dX5_keeps_12 (rV_of2 rfl)
theorem t_keepsG1 {G : GG} {h : AH} {a : Nat} {g : Nat → Int32} {S : Nat → Nat → Int32} {V : Nat → Int32} (T : Tw h a) {n : Nat} (hw : V 33 = 0) (hn : V 32 = nI n) (h8 : n < 8) : Cal G kX5_keeps 1 0 0 [.ref a, .ref (a + 1)] (twh h a g S V) (rV (twh h a g (upS S 2 (kpF (S 2) n g)) (upd (upd V 34 0) 32 (nI (kpN n))))) := by
  refine Cal.of (by decide +kernel) (Nat.le_of_ble_eq_true rfl) (fun c => ?_)
  refine x_aload_n dX5_keeps_0 rfl rfl ?_
  refine x_iconst (nI 0) dX5_keeps_1 (by decide) ?_
  refine tp_code T (.inl q2090) dX5_keeps_2 ?_
  refine x_aload_n dX5_keeps_5 rfl rfl ?_
  refine tg_isWithin T (.inl q2089) dX5_keeps_6 ?_
  refine x_val (show upd V 34 (nI 0) 33 = 0 from (pk_un (by decide)).trans hw) ?_
  refine x_if_eq 13 dX5_keeps_9 (by decide) (fun _ => ?_) (fun z => absurd rfl z)
  refine x_aload_n dX5_keeps_13 rfl rfl ?_
  refine tg_changes T (.inl q2088) dX5_keeps_14 ?_
  refine x_val (show upd V 34 (nI 0) 32 = nI n from (pk_un (by decide)).trans hn) ?_
  refine x_bipush (nI 8) dX5_keeps_17 (by decide) ?_
  refine x_icmp_ne 63 dX5_keeps_19 (by decide) (fun _ => ?_) (fun z => absurd ((nI_eq (by omega) (by decide)).mp z) (by omega))
  refine x_aload_n dX5_keeps_63 rfl rfl ?_
  refine x_iconst (nI 0) dX5_keeps_64 (by decide) ?_
  refine x_aload_n dX5_keeps_65 rfl rfl ?_
  refine tg_kept T (.inl q2083) dX5_keeps_66 ?_
  refine x_sipush (nI 221) dX5_keeps_69 (by decide) ?_
  refine x_aload_n dX5_keeps_72 rfl rfl ?_
  refine tg_changes T (.inl q2088) dX5_keeps_73 ?_
  refine x_val (show upd V 34 (nI 0) 32 = nI n from (pk_un (by decide)).trans hn) ?_
  refine x_imul dX5_keeps_76 ?_
  refine x_val (pk_mul _ _) ?_
  refine x_cSV (by
      have k := t_copies (G := G) (h := twh h a g S (upd V 34 (nI 0))) (s := a + 1) (t := a + 2) (p0 := 0) (q0 := 221 * n) (T.2.2.2.2.2.2.2.2.2.1) (T.2.2.2.2.2.2.2.2.2.2.1) (by rw [twh_hLn, T.2.2.2.2.2.2.2.2.2.2.2.2.2.2.2.2.2.1]; decide) (by rw [twh_hLn, T.2.2.2.2.2.2.2.2.2.2.2.2.2.2.2.2.2.2.1]; omega) (by decide) (by omega) (by omega)
      rw [(twh_g : hEI (twh h a g S (upd V 34 (nI 0))) (a + 1) = g), ((twh_S (by decide) (by decide)).trans (by first | rfl | exact upS_s) : hEI (twh h a g S (upd V 34 (nI 0))) (a + 2) = S 2), twh_uS (by decide) (by decide)] at k
      exact k) okX5_copies q2171 q2172 dX5_keeps_77 rfl rfl (by decide) (Nat.zero_le _) (Nat.zero_le _) (Nat.le_of_ble_eq_true rfl) (fun _ => ?_)
  refine x_aload_n dX5_keeps_80 rfl rfl ?_
  refine x_dup dX5_keeps_81 rfl ?_
  refine tg_changes T (.inl q2088) dX5_keeps_82 ?_
  refine x_val (show upd V 34 (nI 0) 32 = nI n from (pk_un (by decide)).trans hn) ?_
  refine x_iconst (nI 1) dX5_keeps_85 (by decide) ?_
  refine x_iadd dX5_keeps_86 ?_
  refine x_val (nI_add _ _) ?_
  refine tp_changes T (.inl q2088) dX5_keeps_87 ?_
  refine x_vret rfl dX5_keeps_90 ?_
  exact rV_of2 (by unfold kpF kpN; rw [if_neg (by omega), if_neg (by omega)]; rfl)
theorem t_keepsG8 {G : GG} {h : AH} {a : Nat} {g : Nat → Int32} {S : Nat → Nat → Int32} {V : Nat → Int32} (T : Tw h a) (hw : V 33 = 0) (hn : V 32 = nI 8) : Cal G kX5_keeps 1 0 0 [.ref a, .ref (a + 1)] (twh h a g S V) (rV (twh h a g (upS S 2 (kpF (S 2) 8 g)) (upd (upd V 34 0) 32 (nI (kpN 8))))) := by
  refine Cal.of (by decide +kernel) (Nat.le_of_ble_eq_true rfl) (fun c => ?_)
  refine x_aload_n dX5_keeps_0 rfl rfl ?_
  refine x_iconst (nI 0) dX5_keeps_1 (by decide) ?_
  refine tp_code T (.inl q2090) dX5_keeps_2 ?_
  refine x_aload_n dX5_keeps_5 rfl rfl ?_
  refine tg_isWithin T (.inl q2089) dX5_keeps_6 ?_
  refine x_val (show upd V 34 (nI 0) 33 = 0 from (pk_un (by decide)).trans hw) ?_
  refine x_if_eq 13 dX5_keeps_9 (by decide) (fun _ => ?_) (fun z => absurd rfl z)
  refine x_aload_n dX5_keeps_13 rfl rfl ?_
  refine tg_changes T (.inl q2088) dX5_keeps_14 ?_
  refine x_val (show upd V 34 (nI 0) 32 = nI 8 from (pk_un (by decide)).trans hn) ?_
  refine x_bipush (nI 8) dX5_keeps_17 (by decide) ?_
  refine x_icmp_ne 63 dX5_keeps_19 (by decide) (fun z => False.elim (by revert z; decide)) (fun _ => ?_)
  refine x_iconst (nI 0) dX5_keeps_22 (by decide) ?_
  refine x_istore_n [(2, .int (nI 0)), (0, .ref a), (1, .ref (a + 1))] dX5_keeps_23 rfl (by decide) rfl ?_
  refine x_eq (h' := twh h a g (upS S 2 (fun k => if k < 0 then S 2 (k + 221) else S 2 k)) (upd V 34 (nI 0))) (by rw [show (upS S 2 fun k => if k < 0 then S 2 (k + 221) else S 2 k) = S from by
      funext q j
      unfold upS
      by_cases e : q = 2
      · subst e; simp
      · simp [e]]) rfl rfl ?_
  refine x_sub [1, 2, 0] (lv' := [(0, .ref a), (1, .ref (a + 1)), (2, .int (nI 0))]) rfl ?_
  refine x_bud (bc' := 0) (bs' := 0) (by first | exact Nat.zero_le _ | omega) (by first | exact Nat.zero_le _ | omega) ?_
  refine lpN (P := fun i => X G c kX5_keeps 1 _ _ _ 0 0 (twh h a g (upS S 2 (fun k => if k < i then S 2 (k + 221) else S 2 k)) (upd V 34 (nI 0))) 24 [(0, .ref a), (1, .ref (a + 1)), (2, .int (nI i))] []) 1547 (fun i hi ih => ?_) 0 (Nat.zero_le _)
  refine x_iload_n dX5_keeps_24 rfl rfl ?_
  refine x_sipush (nI 1547) dX5_keeps_25 (by decide) ?_
  refine x_icmp_ge 53 dX5_keeps_28 (by decide) (fun e1 => ?_) (fun e1 => ?_)
  · skip
    have ne1 := e1
    rw [nI_leI (by omega) (by omega)] at ne1
    refine x_aload_n dX5_keeps_53 rfl rfl ?_
    refine x_dup dX5_keeps_54 rfl ?_
    refine tg_changes T (.inl q2088) dX5_keeps_55 ?_
    refine x_val (show upd V 34 (nI 0) 32 = nI 8 from (pk_un (by decide)).trans hn) ?_
    refine x_iconst (nI 1) dX5_keeps_58 (by decide) ?_
    refine x_isub dX5_keeps_59 ?_
    refine x_val (show nI 8 - nI 1 = nI 7 from rfl) ?_
    refine tp_changes T (.inl q2088) dX5_keeps_60 ?_
    refine x_aload_n dX5_keeps_63 rfl rfl ?_
    refine x_iconst (nI 0) dX5_keeps_64 (by decide) ?_
    refine x_aload_n dX5_keeps_65 rfl rfl ?_
    refine tg_kept T (.inl q2083) dX5_keeps_66 ?_
    refine x_sipush (nI 221) dX5_keeps_69 (by decide) ?_
    refine x_aload_n dX5_keeps_72 rfl rfl ?_
    refine tg_changes T (.inl q2088) dX5_keeps_73 ?_
    refine x_imul dX5_keeps_76 ?_
    refine x_val (pk_mul _ _) ?_
    refine x_cSV (by
        have k := t_copies (G := G) (h := twh h a g (upS S 2 (fun k => if k < i then S 2 (k + 221) else S 2 k)) (upd (upd V 34 (nI 0)) 32 (nI 7))) (s := a + 1) (t := a + 2) (p0 := 0) (q0 := 221 * 7) (T.2.2.2.2.2.2.2.2.2.1) (T.2.2.2.2.2.2.2.2.2.2.1) (by rw [twh_hLn, T.2.2.2.2.2.2.2.2.2.2.2.2.2.2.2.2.2.1]; decide) (by rw [twh_hLn, T.2.2.2.2.2.2.2.2.2.2.2.2.2.2.2.2.2.2.1]; omega) (by decide) (by omega) (by omega)
        rw [(twh_g : hEI (twh h a g (upS S 2 (fun k => if k < i then S 2 (k + 221) else S 2 k)) (upd (upd V 34 (nI 0)) 32 (nI 7))) (a + 1) = g), ((twh_S (by decide) (by decide)).trans (by first | rfl | exact upS_s) : hEI (twh h a g (upS S 2 (fun k => if k < i then S 2 (k + 221) else S 2 k)) (upd (upd V 34 (nI 0)) 32 (nI 7))) (a + 2) = fun k => if k < i then S 2 (k + 221) else S 2 k), twh_uS (by decide) (by decide)] at k
        exact k) okX5_copies q2171 q2172 dX5_keeps_77 rfl rfl (by decide) (Nat.zero_le _) (Nat.zero_le _) (Nat.le_of_ble_eq_true rfl) (fun _ => ?_)
    refine x_aload_n dX5_keeps_80 rfl rfl ?_
    refine x_dup dX5_keeps_81 rfl ?_
    refine tg_changes T (.inl q2088) dX5_keeps_82 ?_
    refine x_iconst (nI 1) dX5_keeps_85 (by decide) ?_
    refine x_iadd dX5_keeps_86 ?_
    refine x_val (nI_add _ _) ?_
    refine tp_changes T (.inl q2088) dX5_keeps_87 ?_
    refine x_vret rfl dX5_keeps_90 ?_
    exact rV_of2 (by
      rw [show i = 1547 by omega, upd_uu]
      refine congrArg (fun z => twh h a g z _) ?_
      funext q j
      unfold upS
      by_cases e : q = 2
      · subst e; rfl
      · simp [e])
  · skip
    have ne1 := e1
    rw [nI_leI (by omega) (by omega)] at ne1
    refine x_aload_n dX5_keeps_31 rfl rfl ?_
    refine tg_kept T (.inl q2083) dX5_keeps_32 ?_
    refine x_iload_n dX5_keeps_35 rfl rfl ?_
    refine x_aload_n dX5_keeps_36 rfl rfl ?_
    refine tg_kept T (.inl q2083) dX5_keeps_37 ?_
    refine x_iload_n dX5_keeps_40 rfl rfl ?_
    refine x_sipush (nI 221) dX5_keeps_41 (by decide) ?_
    refine x_iadd dX5_keeps_44 ?_
    refine x_val (nI_add _ _) ?_
    refine tld2 T rfl (by omega) dX5_keeps_45 ?_
    refine tst2 T rfl (by omega) dX5_keeps_46 ?_
    refine x_iinc (j := 2) (nI (i + 1)) [(2, .int (nI (i + 1))), (0, .ref a), (1, .ref (a + 1))] dX5_keeps_47 rfl (by first | exact nI_add _ _ | decide) (by decide) rfl ?_
    refine x_goto 24 dX5_keeps_50 (by decide) ?_
    refine x_sub [1, 2, 0] (lv' := [(0, .ref a), (1, .ref (a + 1)), (2, .int (nI (i + 1)))]) rfl ?_
    refine x_eq (h' := twh h a g (upS S 2 (fun k => if k < i + 1 then S 2 (k + 221) else S 2 k)) (upd V 34 (nI 0))) (congrArg (fun z => twh h a g z (upd V 34 (nI 0))) ?_) rfl rfl ?_
    · funext q j
      unfold upS upd
      by_cases e : q = 2
      · subst e
        simp only [if_true]
        by_cases e2 : j = i
        · subst e2; simp; try (intro z; omega)
        · simp only [e2, if_false]
          by_cases e3 : j < i
          · rw [if_pos e3, if_pos (by omega)]
          · rw [if_neg e3, if_neg (by omega)]
      · simp [e]
    exact ih (by omega)
theorem t_keepsG {G : GG} {h : AH} {a : Nat} {g : Nat → Int32} {S : Nat → Nat → Int32} {V : Nat → Int32} (T : Tw h a) (VO : VOk V) : Cal G kX5_keeps 1 0 0 [.ref a, .ref (a + 1)] (twh h a g S V) (rV (twh h a g (kpS S V g) (kpV V))) := by
  obtain ⟨⟨n, hn8, hn⟩, hw⟩ := VO
  unfold kpS kpV
  rcases hw with hw | hw
  · rw [if_pos hw, if_pos hw]
    have e : ix (V 32) = n := by rw [hn]; exact ix_nI (by omega)
    rw [e]
    by_cases e8 : n = 8
    · subst e8; exact t_keepsG8 T hw hn
    · exact t_keepsG1 T hw hn (by omega)
  · rw [if_neg (by rw [hw]; decide), if_neg (by rw [hw]; decide)]
    exact t_keepsG0 T hw
theorem t_keepsB0 {G : GG} {h : AH} {a : Nat} {g : Nat → Int32} {S : Nat → Nat → Int32} {V : Nat → Int32} (T : Tw h a) (hw : V 33 = 1) : Cal G kX5_keeps 1 0 0 [.ref a, .ref (a + 4)] (twh h a g S V) (rV (twh h a g S (upd V 34 0))) := by
  refine Cal.of (by decide +kernel) (Nat.le_of_ble_eq_true rfl) (fun c => ?_)
  refine x_aload_n dX5_keeps_0 rfl rfl ?_
  refine x_iconst (nI 0) dX5_keeps_1 (by decide) ?_
  refine tp_code T (.inl q2090) dX5_keeps_2 ?_
  refine x_aload_n dX5_keeps_5 rfl rfl ?_
  refine tg_isWithin T (.inl q2089) dX5_keeps_6 ?_
  refine x_val (show upd V 34 (nI 0) 33 = 1 from (pk_un (by decide)).trans hw) ?_
  refine x_if_eq 13 dX5_keeps_9 (by decide) (fun z => absurd z (by decide)) (fun _ => ?_)
  refine x_vret rfl dX5_keeps_12 (rV_of2 rfl)
theorem t_keepsB1 {G : GG} {h : AH} {a : Nat} {g : Nat → Int32} {S : Nat → Nat → Int32} {V : Nat → Int32} (T : Tw h a) {n : Nat} (hw : V 33 = 0) (hn : V 32 = nI n) (h8 : n < 8) : Cal G kX5_keeps 1 0 0 [.ref a, .ref (a + 4)] (twh h a g S V) (rV (twh h a g (upS S 2 (kpF (S 2) n (S 4))) (upd (upd V 34 0) 32 (nI (kpN n))))) := by
  refine Cal.of (by decide +kernel) (Nat.le_of_ble_eq_true rfl) (fun c => ?_)
  refine x_aload_n dX5_keeps_0 rfl rfl ?_
  refine x_iconst (nI 0) dX5_keeps_1 (by decide) ?_
  refine tp_code T (.inl q2090) dX5_keeps_2 ?_
  refine x_aload_n dX5_keeps_5 rfl rfl ?_
  refine tg_isWithin T (.inl q2089) dX5_keeps_6 ?_
  refine x_val (show upd V 34 (nI 0) 33 = 0 from (pk_un (by decide)).trans hw) ?_
  refine x_if_eq 13 dX5_keeps_9 (by decide) (fun _ => ?_) (fun z => absurd rfl z)
  refine x_aload_n dX5_keeps_13 rfl rfl ?_
  refine tg_changes T (.inl q2088) dX5_keeps_14 ?_
  refine x_val (show upd V 34 (nI 0) 32 = nI n from (pk_un (by decide)).trans hn) ?_
  refine x_bipush (nI 8) dX5_keeps_17 (by decide) ?_
  refine x_icmp_ne 63 dX5_keeps_19 (by decide) (fun _ => ?_) (fun z => absurd ((nI_eq (by omega) (by decide)).mp z) (by omega))
  refine x_aload_n dX5_keeps_63 rfl rfl ?_
  refine x_iconst (nI 0) dX5_keeps_64 (by decide) ?_
  refine x_aload_n dX5_keeps_65 rfl rfl ?_
  refine tg_kept T (.inl q2083) dX5_keeps_66 ?_
  refine x_sipush (nI 221) dX5_keeps_69 (by decide) ?_
  refine x_aload_n dX5_keeps_72 rfl rfl ?_
  refine tg_changes T (.inl q2088) dX5_keeps_73 ?_
  refine x_val (show upd V 34 (nI 0) 32 = nI n from (pk_un (by decide)).trans hn) ?_
  refine x_imul dX5_keeps_76 ?_
  refine x_val (pk_mul _ _) ?_
  refine x_cSV (by
      have k := t_copies (G := G) (h := twh h a g S (upd V 34 (nI 0))) (s := a + 4) (t := a + 2) (p0 := 0) (q0 := 221 * n) (T.2.2.2.2.2.2.2.2.2.2.2.2.1) (T.2.2.2.2.2.2.2.2.2.2.1) (by rw [twh_hLn, T.2.2.2.2.2.2.2.2.2.2.2.2.2.2.2.2.2.2.2.2.1]; decide) (by rw [twh_hLn, T.2.2.2.2.2.2.2.2.2.2.2.2.2.2.2.2.2.2.1]; omega) (by decide) (by omega) (by omega)
      rw [((twh_S (by decide) (by decide)).trans (by first | rfl | exact upS_n (by decide)) : hEI (twh h a g S (upd V 34 (nI 0))) (a + 4) = S 4), ((twh_S (by decide) (by decide)).trans (by first | rfl | exact upS_s) : hEI (twh h a g S (upd V 34 (nI 0))) (a + 2) = S 2), twh_uS (by decide) (by decide)] at k
      exact k) okX5_copies q2171 q2172 dX5_keeps_77 rfl rfl (by decide) (Nat.zero_le _) (Nat.zero_le _) (Nat.le_of_ble_eq_true rfl) (fun _ => ?_)
  refine x_aload_n dX5_keeps_80 rfl rfl ?_
  refine x_dup dX5_keeps_81 rfl ?_
  refine tg_changes T (.inl q2088) dX5_keeps_82 ?_
  refine x_val (show upd V 34 (nI 0) 32 = nI n from (pk_un (by decide)).trans hn) ?_
  refine x_iconst (nI 1) dX5_keeps_85 (by decide) ?_
  refine x_iadd dX5_keeps_86 ?_
  refine x_val (nI_add _ _) ?_
  refine tp_changes T (.inl q2088) dX5_keeps_87 ?_
  refine x_vret rfl dX5_keeps_90 ?_
  exact rV_of2 (by unfold kpF kpN; rw [if_neg (by omega), if_neg (by omega)]; rfl)
theorem t_keepsB8 {G : GG} {h : AH} {a : Nat} {g : Nat → Int32} {S : Nat → Nat → Int32} {V : Nat → Int32} (T : Tw h a) (hw : V 33 = 0) (hn : V 32 = nI 8) : Cal G kX5_keeps 1 0 0 [.ref a, .ref (a + 4)] (twh h a g S V) (rV (twh h a g (upS S 2 (kpF (S 2) 8 (S 4))) (upd (upd V 34 0) 32 (nI (kpN 8))))) := by
  refine Cal.of (by decide +kernel) (Nat.le_of_ble_eq_true rfl) (fun c => ?_)
  refine x_aload_n dX5_keeps_0 rfl rfl ?_
  refine x_iconst (nI 0) dX5_keeps_1 (by decide) ?_
  refine tp_code T (.inl q2090) dX5_keeps_2 ?_
  refine x_aload_n dX5_keeps_5 rfl rfl ?_
  refine tg_isWithin T (.inl q2089) dX5_keeps_6 ?_
  refine x_val (show upd V 34 (nI 0) 33 = 0 from (pk_un (by decide)).trans hw) ?_
  refine x_if_eq 13 dX5_keeps_9 (by decide) (fun _ => ?_) (fun z => absurd rfl z)
  refine x_aload_n dX5_keeps_13 rfl rfl ?_
  refine tg_changes T (.inl q2088) dX5_keeps_14 ?_
  refine x_val (show upd V 34 (nI 0) 32 = nI 8 from (pk_un (by decide)).trans hn) ?_
  refine x_bipush (nI 8) dX5_keeps_17 (by decide) ?_
  refine x_icmp_ne 63 dX5_keeps_19 (by decide) (fun z => False.elim (by revert z; decide)) (fun _ => ?_)
  refine x_iconst (nI 0) dX5_keeps_22 (by decide) ?_
  refine x_istore_n [(2, .int (nI 0)), (0, .ref a), (1, .ref (a + 4))] dX5_keeps_23 rfl (by decide) rfl ?_
  refine x_eq (h' := twh h a g (upS S 2 (fun k => if k < 0 then S 2 (k + 221) else S 2 k)) (upd V 34 (nI 0))) (by rw [show (upS S 2 fun k => if k < 0 then S 2 (k + 221) else S 2 k) = S from by
      funext q j
      unfold upS
      by_cases e : q = 2
      · subst e; simp
      · simp [e]]) rfl rfl ?_
  refine x_sub [1, 2, 0] (lv' := [(0, .ref a), (1, .ref (a + 4)), (2, .int (nI 0))]) rfl ?_
  refine x_bud (bc' := 0) (bs' := 0) (by first | exact Nat.zero_le _ | omega) (by first | exact Nat.zero_le _ | omega) ?_
  refine lpN (P := fun i => X G c kX5_keeps 1 _ _ _ 0 0 (twh h a g (upS S 2 (fun k => if k < i then S 2 (k + 221) else S 2 k)) (upd V 34 (nI 0))) 24 [(0, .ref a), (1, .ref (a + 4)), (2, .int (nI i))] []) 1547 (fun i hi ih => ?_) 0 (Nat.zero_le _)
  refine x_iload_n dX5_keeps_24 rfl rfl ?_
  refine x_sipush (nI 1547) dX5_keeps_25 (by decide) ?_
  refine x_icmp_ge 53 dX5_keeps_28 (by decide) (fun e1 => ?_) (fun e1 => ?_)
  · skip
    have ne1 := e1
    rw [nI_leI (by omega) (by omega)] at ne1
    refine x_aload_n dX5_keeps_53 rfl rfl ?_
    refine x_dup dX5_keeps_54 rfl ?_
    refine tg_changes T (.inl q2088) dX5_keeps_55 ?_
    refine x_val (show upd V 34 (nI 0) 32 = nI 8 from (pk_un (by decide)).trans hn) ?_
    refine x_iconst (nI 1) dX5_keeps_58 (by decide) ?_
    refine x_isub dX5_keeps_59 ?_
    refine x_val (show nI 8 - nI 1 = nI 7 from rfl) ?_
    refine tp_changes T (.inl q2088) dX5_keeps_60 ?_
    refine x_aload_n dX5_keeps_63 rfl rfl ?_
    refine x_iconst (nI 0) dX5_keeps_64 (by decide) ?_
    refine x_aload_n dX5_keeps_65 rfl rfl ?_
    refine tg_kept T (.inl q2083) dX5_keeps_66 ?_
    refine x_sipush (nI 221) dX5_keeps_69 (by decide) ?_
    refine x_aload_n dX5_keeps_72 rfl rfl ?_
    refine tg_changes T (.inl q2088) dX5_keeps_73 ?_
    refine x_imul dX5_keeps_76 ?_
    refine x_val (pk_mul _ _) ?_
    refine x_cSV (by
        have k := t_copies (G := G) (h := twh h a g (upS S 2 (fun k => if k < i then S 2 (k + 221) else S 2 k)) (upd (upd V 34 (nI 0)) 32 (nI 7))) (s := a + 4) (t := a + 2) (p0 := 0) (q0 := 221 * 7) (T.2.2.2.2.2.2.2.2.2.2.2.2.1) (T.2.2.2.2.2.2.2.2.2.2.1) (by rw [twh_hLn, T.2.2.2.2.2.2.2.2.2.2.2.2.2.2.2.2.2.2.2.2.1]; decide) (by rw [twh_hLn, T.2.2.2.2.2.2.2.2.2.2.2.2.2.2.2.2.2.2.1]; omega) (by decide) (by omega) (by omega)
        rw [((twh_S (by decide) (by decide)).trans (by first | rfl | exact upS_n (by decide)) : hEI (twh h a g (upS S 2 (fun k => if k < i then S 2 (k + 221) else S 2 k)) (upd (upd V 34 (nI 0)) 32 (nI 7))) (a + 4) = S 4), ((twh_S (by decide) (by decide)).trans (by first | rfl | exact upS_s) : hEI (twh h a g (upS S 2 (fun k => if k < i then S 2 (k + 221) else S 2 k)) (upd (upd V 34 (nI 0)) 32 (nI 7))) (a + 2) = fun k => if k < i then S 2 (k + 221) else S 2 k), twh_uS (by decide) (by decide)] at k
        exact k) okX5_copies q2171 q2172 dX5_keeps_77 rfl rfl (by decide) (Nat.zero_le _) (Nat.zero_le _) (Nat.le_of_ble_eq_true rfl) (fun _ => ?_)
    refine x_aload_n dX5_keeps_80 rfl rfl ?_
    refine x_dup dX5_keeps_81 rfl ?_
    refine tg_changes T (.inl q2088) dX5_keeps_82 ?_
    refine x_iconst (nI 1) dX5_keeps_85 (by decide) ?_
    refine x_iadd dX5_keeps_86 ?_
    refine x_val (nI_add _ _) ?_
    refine tp_changes T (.inl q2088) dX5_keeps_87 ?_
    refine x_vret rfl dX5_keeps_90 ?_
    exact rV_of2 (by
      rw [show i = 1547 by omega, upd_uu]
      refine congrArg (fun z => twh h a g z _) ?_
      funext q j
      unfold upS
      by_cases e : q = 2
      · subst e; rfl
      · simp [e])
  · skip
    have ne1 := e1
    rw [nI_leI (by omega) (by omega)] at ne1
    refine x_aload_n dX5_keeps_31 rfl rfl ?_
    refine tg_kept T (.inl q2083) dX5_keeps_32 ?_
    refine x_iload_n dX5_keeps_35 rfl rfl ?_
    refine x_aload_n dX5_keeps_36 rfl rfl ?_
    refine tg_kept T (.inl q2083) dX5_keeps_37 ?_
    refine x_iload_n dX5_keeps_40 rfl rfl ?_
    refine x_sipush (nI 221) dX5_keeps_41 (by decide) ?_
    refine x_iadd dX5_keeps_44 ?_
    refine x_val (nI_add _ _) ?_
    refine tld2 T rfl (by omega) dX5_keeps_45 ?_
    refine tst2 T rfl (by omega) dX5_keeps_46 ?_
    refine x_iinc (j := 2) (nI (i + 1)) [(2, .int (nI (i + 1))), (0, .ref a), (1, .ref (a + 4))] dX5_keeps_47 rfl (by first | exact nI_add _ _ | decide) (by decide) rfl ?_
    refine x_goto 24 dX5_keeps_50 (by decide) ?_
    refine x_sub [1, 2, 0] (lv' := [(0, .ref a), (1, .ref (a + 4)), (2, .int (nI (i + 1)))]) rfl ?_
    refine x_eq (h' := twh h a g (upS S 2 (fun k => if k < i + 1 then S 2 (k + 221) else S 2 k)) (upd V 34 (nI 0))) (congrArg (fun z => twh h a g z (upd V 34 (nI 0))) ?_) rfl rfl ?_
    · funext q j
      unfold upS upd
      by_cases e : q = 2
      · subst e
        simp only [if_true]
        by_cases e2 : j = i
        · subst e2; simp; try (intro z; omega)
        · simp only [e2, if_false]
          by_cases e3 : j < i
          · rw [if_pos e3, if_pos (by omega)]
          · rw [if_neg e3, if_neg (by omega)]
      · simp [e]
    exact ih (by omega)
theorem t_keepsB {G : GG} {h : AH} {a : Nat} {g : Nat → Int32} {S : Nat → Nat → Int32} {V : Nat → Int32} (T : Tw h a) (VO : VOk V) : Cal G kX5_keeps 1 0 0 [.ref a, .ref (a + 4)] (twh h a g S V) (rV (twh h a g (kpS S V (S 4)) (kpV V))) := by
  obtain ⟨⟨n, hn8, hn⟩, hw⟩ := VO
  unfold kpS kpV
  rcases hw with hw | hw
  · rw [if_pos hw, if_pos hw]
    have e : ix (V 32) = n := by rw [hn]; exact ix_nI (by omega)
    rw [e]
    by_cases e8 : n = 8
    · subst e8; exact t_keepsB8 T hw hn
    · exact t_keepsB1 T hw hn (by omega)
  · rw [if_neg (by rw [hw]; decide), if_neg (by rw [hw]; decide)]
    exact t_keepsB0 T hw
theorem t_keepsF {G : GG} {h : AH} {a : Nat} {g : Nat → Int32} {S : Nat → Nat → Int32} {V : Nat → Int32} (T : Tw h a) (VO : VOk V) : Cal G kX5_keeps 1 0 0 [.ref a, .ref (a + 1)] (twh h a g S (upd V 34 (nI 0))) (rV (twh h a g (kpS S V g) (kpV V))) := by
  have k := t_keepsG (G := G) (g := g) (S := S) T (VO.upd (k := 34) (v := nI 0) (by decide) (by decide))
  rw [kpS_34, kpV_34] at k
  exact k
theorem t_dress {G : GG} {h : AH} {a : Nat} {g : Nat → Int32} {S : Nat → Nat → Int32} {V : Nat → Int32} (T : Tw h a) (O : GOk g) (VO : VOk V) {x : Int32} : Cal G kX5_dress 2 0 0 [.ref a, .int x] (twh h a g S V) (rI (sp_dress g x).2.1 (twR h a g S V (nI 1) (nI 0) (nI 2) (sp_dress g x))) := by
  refine Cal.of (by decide +kernel) (Nat.le_of_ble_eq_true rfl) (fun c => ?_)
  have hb0 := O.b
  have hj0 := O.j
  have ho0 := O.o
  refine x_aload_n dX5_dress_0 rfl rfl ?_
  refine x_iload_n dX5_dress_1 rfl rfl ?_
  refine x_cSI t_isQuern okX5_isQuern q2178 q2179 dX5_dress_2 rfl rfl (by decide) (Nat.zero_le _) (Nat.zero_le _) (Nat.le_of_ble_eq_true rfl) (fun _ => ?_)
  refine x_if_eqB 12 dX5_dress_5 (by decide) (fun e1 => ?_) (fun e1 => ?_)
  · skip
    refine x_iconst (nI 1) dX5_dress_12 (by decide) ?_
    refine x_cVI (t_fails1 T) okX5_fails clX5 q2159 q2161 qs23 dX5_dress_13 (Or.inl T.1) rfl rfl (by decide) (Nat.zero_le _) (Nat.zero_le _) (Nat.le_of_ble_eq_true rfl) (fun _ => ?_)
    refine x_if_eq 21 dX5_dress_16 (by decide) (fun z => False.elim (by revert z; decide)) (fun _ => ?_)
    refine x_iconst (nI 0) dX5_dress_19 (by decide) ?_
    refine x_iret rfl dX5_dress_20 ?_
    rw [show sp_dress g x = iobR g from by simp_all [sp_dress, ← pk_mul, ← nI_add, nIl, ixl, nle_i, nlt_i]]
    exact ⟨rfl, by simp only [twR, upd_uu]; try rfl⟩
  · skip
    obtain ⟨k, hk, rfl⟩ := inB_n (n := 2) (by decide) e1
    have xk : (nI k).toNatClampNeg = k := ix_nI (by omega)
    refine x_iconst (nI 0) dX5_dress_8 (by decide) ?_
    refine x_goto 13 dX5_dress_9 (by decide) ?_
    refine x_cVI (t_fails0 T) okX5_fails clX5 q2159 q2161 qs23 dX5_dress_13 (Or.inl T.1) rfl rfl (by decide) (Nat.zero_le _) (Nat.zero_le _) (Nat.le_of_ble_eq_true rfl) (fun _ => ?_)
    refine x_if_eq 21 dX5_dress_16 (by decide) (fun _ => ?_) (fun z => False.elim (by revert z; decide))
    refine x_aload_n dX5_dress_21 rfl rfl ?_
    refine x_iload_n dX5_dress_22 rfl rfl ?_
    refine x_iconst (nI 1) dX5_dress_23 (by decide) ?_
    refine x_cVI (t_ofQuern T (by omega)) okX5_ofQuern clX5 q2181 q2183 qs26 dX5_dress_24 (Or.inl T.1) rfl rfl (by decide) (Nat.zero_le _) (Nat.zero_le _) (Nat.le_of_ble_eq_true rfl) (fun _ => ?_)
    refine x_if_le 44 dX5_dress_27 (by decide) (fun e2 => ?_) (fun e2 => ?_)
    · skip
      refine x_aload_n dX5_dress_44 rfl rfl ?_
      refine tg_g T (.inl q2082) dX5_dress_45 ?_
      refine x_bipush (nI 6) dX5_dress_48 (by decide) ?_
      refine tld1 T rfl (by omega) dX5_dress_50 ?_
      refine x_iconst (nI 5) dX5_dress_51 (by decide) ?_
      refine x_icmp_ge 71 dX5_dress_52 (by decide) (fun e3 => ?_) (fun e3 => ?_)
      · skip
        refine x_aload_n dX5_dress_71 rfl rfl ?_
        refine x_aload_n dX5_dress_72 rfl rfl ?_
        refine tg_g T (.inl q2082) dX5_dress_73 ?_
        refine x_cVV (t_keepsF T VO) okX5_keeps clX5 q2167 q2169 qs25 dX5_dress_76 (Or.inl T.1) rfl rfl (by decide) (Nat.zero_le _) (Nat.zero_le _) (Nat.le_of_ble_eq_true rfl) (fun _ => ?_)
        refine x_aload_n dX5_dress_79 rfl rfl ?_
        refine x_iload_n dX5_dress_80 rfl rfl ?_
        refine x_iconst (nI 0) dX5_dress_81 (by decide) ?_
        refine x_cVI (t_ofQuern T (by omega)) okX5_ofQuern clX5 q2181 q2183 qs26 dX5_dress_82 (Or.inl T.1) rfl rfl (by decide) (Nat.zero_le _) (Nat.zero_le _) (Nat.le_of_ble_eq_true rfl) (fun _ => ?_)
        refine x_istore_n [(2, .int (gq g k 0)), (0, .ref a), (1, .int (nI k))] dX5_dress_85 rfl (by decide) rfl ?_
        refine x_aload_n dX5_dress_86 rfl rfl ?_
        refine tg_g T (.inl q2082) dX5_dress_87 ?_
        refine x_bipush (nI 6) dX5_dress_90 (by decide) ?_
        refine x_dup2 dX5_dress_92 rfl rfl ?_
        refine tld1 T rfl (by omega) dX5_dress_93 ?_
        refine x_iconst (nI 5) dX5_dress_94 (by decide) ?_
        refine x_isub dX5_dress_95 ?_
        refine tst1 T rfl (by omega) dX5_dress_96 ?_
        refine x_aload_n dX5_dress_97 rfl rfl ?_
        refine tg_g T (.inl q2082) dX5_dress_98 ?_
        refine x_bipush (nI 16) dX5_dress_101 (by decide) ?_
        refine x_iconst (nI 3) dX5_dress_103 (by decide) ?_
        refine x_iload_n dX5_dress_104 rfl rfl ?_
        refine x_imul dX5_dress_105 ?_
        refine x_val (pk_mul _ _) ?_
        refine x_iadd dX5_dress_106 ?_
        refine x_val (nI_add _ _) ?_
        refine x_bipush (nI 9) dX5_dress_107 (by decide) ?_
        refine tst1 T rfl (by omega) dX5_dress_109 ?_
        refine x_iload_n dX5_dress_110 rfl rfl ?_
        refine x_iret rfl dX5_dress_111 ?_
        rw [show sp_dress g (nI k) = okR (gq g k 0) (upd (upd g 6 ((g 6) - (nI 5))) (16 + (3 * k)) (nI 9)) from by simp_all [sp_dress, ← pk_mul, ← nI_add, nIl, ixl, nle_i, nlt_i]]
        exact ⟨rfl, by simp only [twR, upd_uu]; try rfl⟩
      · skip
        refine x_aload_n dX5_dress_55 rfl rfl ?_
        refine x_iconst (nI 2) dX5_dress_56 (by decide) ?_
        refine x_iconst (nI 5) dX5_dress_57 (by decide) ?_
        refine x_iconst (nI 5) dX5_dress_58 (by decide) ?_
        refine x_aload_n dX5_dress_59 rfl rfl ?_
        refine tg_g T (.inl q2082) dX5_dress_60 ?_
        refine x_bipush (nI 6) dX5_dress_63 (by decide) ?_
        refine tld1 T rfl (by omega) dX5_dress_65 ?_
        refine x_isub dX5_dress_66 ?_
        refine x_cVI (t_refuses T) okX5_refuses clX5 q2163 q2165 qs24 dX5_dress_67 (Or.inl T.1) rfl rfl (by decide) (Nat.zero_le _) (Nat.zero_le _) (Nat.le_of_ble_eq_true rfl) (fun _ => ?_)
        refine x_iret rfl dX5_dress_70 ?_
        rw [show sp_dress g (nI k) = refR (nI 5) ((nI 5) - (g 6)) g from by simp_all [sp_dress, ← pk_mul, ← nI_add, nIl, ixl, nle_i, nlt_i]]
        exact ⟨rfl, by simp only [twR, upd_uu]; try rfl⟩
    · skip
      refine x_aload_n dX5_dress_30 rfl rfl ?_
      refine x_iconst (nI 2) dX5_dress_31 (by decide) ?_
      refine x_bipush (nI 6) dX5_dress_32 (by decide) ?_
      refine x_aload_n dX5_dress_34 rfl rfl ?_
      refine x_iload_n dX5_dress_35 rfl rfl ?_
      refine x_iconst (nI 1) dX5_dress_36 (by decide) ?_
      refine x_cVI (t_ofQuern T (by omega)) okX5_ofQuern clX5 q2181 q2183 qs26 dX5_dress_37 (Or.inl T.1) rfl rfl (by decide) (Nat.zero_le _) (Nat.zero_le _) (Nat.le_of_ble_eq_true rfl) (fun _ => ?_)
      refine x_cVI (t_refuses T) okX5_refuses clX5 q2163 q2165 qs24 dX5_dress_40 (Or.inl T.1) rfl rfl (by decide) (Nat.zero_le _) (Nat.zero_le _) (Nat.le_of_ble_eq_true rfl) (fun _ => ?_)
      refine x_iret rfl dX5_dress_43 ?_
      rw [show sp_dress g (nI k) = refR (nI 6) (gq g k 1) g from by simp_all [sp_dress, ← pk_mul, ← nI_add, nIl, ixl, nle_i, nlt_i]]
      exact ⟨rfl, by simp only [twR, upd_uu]; try rfl⟩
theorem t_quernOf {G : GG} {h : AH} {a : Nat} {g : Nat → Int32} {S : Nat → Nat → Int32} {V : Nat → Int32} (T : Tw h a) (O : GOk g) {x : Int32} {y : Int32} : Cal G kX5_quernOf 2 0 0 [.ref a, .int x, .int y] (twh h a g S V) (rI (sp_quernOf g x y).2 (twQ h a g S V (sp_quernOf g x y))) := by
  refine Cal.of (by decide +kernel) (Nat.le_of_ble_eq_true rfl) (fun c => ?_)
  have hb0 := O.b
  have hj0 := O.j
  have ho0 := O.o
  refine x_aload_n dX5_quernOf_0 rfl rfl ?_
  refine x_iload_n dX5_quernOf_1 rfl rfl ?_
  refine x_cSI t_isQuern okX5_isQuern q2178 q2179 dX5_quernOf_2 rfl rfl (by decide) (Nat.zero_le _) (Nat.zero_le _) (Nat.le_of_ble_eq_true rfl) (fun _ => ?_)
  refine x_if_neB 12 dX5_quernOf_5 (by decide) (fun e1 => ?_) (fun e1 => ?_)
  · skip
    obtain ⟨k, hk, rfl⟩ := inB_n (n := 2) (by decide) e1
    have xk : (nI k).toNatClampNeg = k := ix_nI (by omega)
    refine x_iload_n dX5_quernOf_12 rfl rfl ?_
    refine x_iconst (nI 0) dX5_quernOf_13 (by decide) ?_
    refine x_iconst (nI 3) dX5_quernOf_14 (by decide) ?_
    refine x_cSI t_in okX5_in q2156 q2157 dX5_quernOf_15 rfl rfl (by decide) (Nat.zero_le _) (Nat.zero_le _) (Nat.le_of_ble_eq_true rfl) (fun _ => ?_)
    refine x_if_eqB 25 dX5_quernOf_18 (by decide) (fun e2 => ?_) (fun e2 => ?_)
    · skip
      refine x_iconst (nI 2) dX5_quernOf_25 (by decide) ?_
      refine x_cVI (t_fails2 T) okX5_fails clX5 q2159 q2161 qs23 dX5_quernOf_26 (Or.inl T.1) rfl rfl (by decide) (Nat.zero_le _) (Nat.zero_le _) (Nat.le_of_ble_eq_true rfl) (fun _ => ?_)
      refine x_if_eq 34 dX5_quernOf_29 (by decide) (fun z => False.elim (by revert z; decide)) (fun _ => ?_)
      refine x_iconst (nI 0) dX5_quernOf_32 (by decide) ?_
      refine x_iret rfl dX5_quernOf_33 ?_
      rw [show sp_quernOf g (nI k) y = (2, nI 0) from by simp_all [sp_quernOf, ← pk_mul, ← nI_add, nIl, ixl, nle_i, nlt_i]]
      exact ⟨rfl, by simp only [twQ, upd_uu]⟩
    · skip
      obtain ⟨w, hw, rfl⟩ := inB_n (n := 3) (by decide) e2
      have xw : (nI w).toNatClampNeg = w := ix_nI (by omega)
      refine x_iconst (nI 0) dX5_quernOf_21 (by decide) ?_
      refine x_goto 26 dX5_quernOf_22 (by decide) ?_
      refine x_cVI (t_fails0 T) okX5_fails clX5 q2159 q2161 qs23 dX5_quernOf_26 (Or.inl T.1) rfl rfl (by decide) (Nat.zero_le _) (Nat.zero_le _) (Nat.le_of_ble_eq_true rfl) (fun _ => ?_)
      refine x_if_eq 34 dX5_quernOf_29 (by decide) (fun _ => ?_) (fun z => False.elim (by revert z; decide))
      refine x_iload_n dX5_quernOf_34 rfl rfl ?_
      refine x_iconst (nI 3) dX5_quernOf_35 (by decide) ?_
      refine x_icmp_ne 52 dX5_quernOf_36 (by decide) (fun e3 => ?_) (fun e3 => ?_)
      · skip
        have ne3 := e3
        rw [nI_eq (by omega) (by omega)] at ne3
        refine x_aload_n dX5_quernOf_52 rfl rfl ?_
        refine x_iload_n dX5_quernOf_53 rfl rfl ?_
        refine x_iload_n dX5_quernOf_54 rfl rfl ?_
        refine x_cVI (t_ofQuern T (by omega)) okX5_ofQuern clX5 q2181 q2183 qs26 dX5_quernOf_55 (Or.inl T.1) rfl rfl (by decide) (Nat.zero_le _) (Nat.zero_le _) (Nat.le_of_ble_eq_true rfl) (fun _ => ?_)
        refine x_iret rfl dX5_quernOf_58 ?_
        rw [show sp_quernOf g (nI k) (nI w) = (0, gq g k w) from by simp_all [sp_quernOf, ← pk_mul, ← nI_add, nIl, ixl, nle_i, nlt_i]]
        exact ⟨rfl, by simp only [twQ, upd_uu]⟩
      · skip
        have ne3 := e3
        rw [nI_eq (by omega) (by omega)] at ne3
        refine x_aload_n dX5_quernOf_39 rfl rfl ?_
        refine x_iload_n dX5_quernOf_40 rfl rfl ?_
        refine x_iconst (nI 1) dX5_quernOf_41 (by decide) ?_
        refine x_cVI (t_ofQuern T (by omega)) okX5_ofQuern clX5 q2181 q2183 qs26 dX5_quernOf_42 (Or.inl T.1) rfl rfl (by decide) (Nat.zero_le _) (Nat.zero_le _) (Nat.le_of_ble_eq_true rfl) (fun _ => ?_)
        refine x_iconst (nI 2) dX5_quernOf_45 (by decide) ?_
        refine x_iadd dX5_quernOf_46 ?_
        refine x_iconst (nI 3) dX5_quernOf_47 (by decide) ?_
        refine x_idiv dX5_quernOf_48 (by decide) ?_
        refine x_goto 58 dX5_quernOf_49 (by decide) ?_
        refine x_iret rfl dX5_quernOf_58 ?_
        rw [show sp_quernOf g (nI k) (nI w) = (0, ((gq g k 1) + (nI 2)) / (nI 3)) from by simp_all [sp_quernOf, ← pk_mul, ← nI_add, nIl, ixl, nle_i, nlt_i]]
        exact ⟨rfl, by simp only [twQ, upd_uu]⟩
  · skip
    refine x_iconst (nI 1) dX5_quernOf_8 (by decide) ?_
    refine x_goto 26 dX5_quernOf_9 (by decide) ?_
    refine x_cVI (t_fails1 T) okX5_fails clX5 q2159 q2161 qs23 dX5_quernOf_26 (Or.inl T.1) rfl rfl (by decide) (Nat.zero_le _) (Nat.zero_le _) (Nat.le_of_ble_eq_true rfl) (fun _ => ?_)
    refine x_if_eq 34 dX5_quernOf_29 (by decide) (fun z => False.elim (by revert z; decide)) (fun _ => ?_)
    refine x_iconst (nI 0) dX5_quernOf_32 (by decide) ?_
    refine x_iret rfl dX5_quernOf_33 ?_
    rw [show sp_quernOf g x y = (1, nI 0) from by simp_all [sp_quernOf, ← pk_mul, ← nI_add, nIl, ixl, nle_i, nlt_i]]
    exact ⟨rfl, by simp only [twQ, upd_uu]⟩
theorem t_biteOf {G : GG} {h : AH} {a : Nat} {g : Nat → Int32} {S : Nat → Nat → Int32} {V : Nat → Int32} (T : Tw h a) (O : GOk g) {x : Int32} {y : Int32} {b : Int32} {z : Int32} : Cal G kX5_biteOf 3 0 0 [.ref a, .int x, .int y, .int b, .int z] (twh h a g S V) (rI (sp_biteOf g x y b z).2 (twQ h a g S V (sp_biteOf g x y b z))) := by
  refine Cal.of (by decide +kernel) (Nat.le_of_ble_eq_true rfl) (fun c => ?_)
  have hb0 := O.b
  have hj0 := O.j
  have ho0 := O.o
  refine x_aload_n dX5_biteOf_0 rfl rfl ?_
  refine x_iload_n dX5_biteOf_1 rfl rfl ?_
  refine x_cSI t_isQuern okX5_isQuern q2178 q2179 dX5_biteOf_2 rfl rfl (by decide) (Nat.zero_le _) (Nat.zero_le _) (Nat.le_of_ble_eq_true rfl) (fun _ => ?_)
  refine x_if_neB 12 dX5_biteOf_5 (by decide) (fun e1 => ?_) (fun e1 => ?_)
  · skip
    obtain ⟨k, hk, rfl⟩ := inB_n (n := 2) (by decide) e1
    have xk : (nI k).toNatClampNeg = k := ix_nI (by omega)
    refine x_iload_n dX5_biteOf_12 rfl rfl ?_
    refine x_iload_n dX5_biteOf_13 rfl rfl ?_
    refine x_iload dX5_biteOf_14 rfl ?_
    refine x_cSI t_isMix okX5_isMix q2193 q2194 dX5_biteOf_16 rfl rfl (by decide) (Nat.zero_le _) (Nat.zero_le _) (Nat.le_of_ble_eq_true rfl) (fun _ => ?_)
    refine x_if_eqB 26 dX5_biteOf_19 (by decide) (fun e2 => ?_) (fun e2 => ?_)
    · skip
      refine x_iconst (nI 2) dX5_biteOf_26 (by decide) ?_
      refine x_cVI (t_fails2 T) okX5_fails clX5 q2159 q2161 qs23 dX5_biteOf_27 (Or.inl T.1) rfl rfl (by decide) (Nat.zero_le _) (Nat.zero_le _) (Nat.le_of_ble_eq_true rfl) (fun _ => ?_)
      refine x_if_eq 37 dX5_biteOf_30 (by decide) (fun z => False.elim (by revert z; decide)) (fun _ => ?_)
      refine x_iconst (nI 0) dX5_biteOf_33 (by decide) ?_
      refine x_goto 46 dX5_biteOf_34 (by decide) ?_
      refine x_iret rfl dX5_biteOf_46 ?_
      rw [show sp_biteOf g (nI k) y b z = (2, nI 0) from by simp_all [sp_biteOf, ← pk_mul, ← nI_add, nIl, ixl, nle_i, nlt_i]]
      exact ⟨rfl, by simp only [twQ, upd_uu]⟩
    · skip
      have hz0 := isMix_nz e2
      refine x_iconst (nI 0) dX5_biteOf_22 (by decide) ?_
      refine x_goto 27 dX5_biteOf_23 (by decide) ?_
      refine x_cVI (t_fails0 T) okX5_fails clX5 q2159 q2161 qs23 dX5_biteOf_27 (Or.inl T.1) rfl rfl (by decide) (Nat.zero_le _) (Nat.zero_le _) (Nat.le_of_ble_eq_true rfl) (fun _ => ?_)
      refine x_if_eq 37 dX5_biteOf_30 (by decide) (fun _ => ?_) (fun z => False.elim (by revert z; decide))
      refine x_aload_n dX5_biteOf_37 rfl rfl ?_
      refine x_iload_n dX5_biteOf_38 rfl rfl ?_
      refine x_iload_n dX5_biteOf_39 rfl rfl ?_
      refine x_iload_n dX5_biteOf_40 rfl rfl ?_
      refine x_iload dX5_biteOf_41 rfl ?_
      refine x_cVI (t_biteBy T (by omega) (by assumption)) okX5_biteBy clX5 q2204 q2206 qs29 dX5_biteOf_43 (Or.inl T.1) rfl rfl (by decide) (Nat.zero_le _) (Nat.zero_le _) (Nat.le_of_ble_eq_true rfl) (fun _ => ?_)
      refine x_iret rfl dX5_biteOf_46 ?_
      rw [show sp_biteOf g (nI k) y b z = (0, biteBy g k y b z) from by simp_all [sp_biteOf, ← pk_mul, ← nI_add, nIl, ixl, nle_i, nlt_i]]
      exact ⟨rfl, by simp only [twQ, upd_uu]⟩
  · skip
    refine x_iconst (nI 1) dX5_biteOf_8 (by decide) ?_
    refine x_goto 27 dX5_biteOf_9 (by decide) ?_
    refine x_cVI (t_fails1 T) okX5_fails clX5 q2159 q2161 qs23 dX5_biteOf_27 (Or.inl T.1) rfl rfl (by decide) (Nat.zero_le _) (Nat.zero_le _) (Nat.le_of_ble_eq_true rfl) (fun _ => ?_)
    refine x_if_eq 37 dX5_biteOf_30 (by decide) (fun z => False.elim (by revert z; decide)) (fun _ => ?_)
    refine x_iconst (nI 0) dX5_biteOf_33 (by decide) ?_
    refine x_goto 46 dX5_biteOf_34 (by decide) ?_
    refine x_iret rfl dX5_biteOf_46 ?_
    rw [show sp_biteOf g x y b z = (1, nI 0) from by simp_all [sp_biteOf, ← pk_mul, ← nI_add, nIl, ixl, nle_i, nlt_i]]
    exact ⟨rfl, by simp only [twQ, upd_uu]⟩
theorem t_grind {G : GG} {h : AH} {a : Nat} {g : Nat → Int32} {S : Nat → Nat → Int32} {V : Nat → Int32} (T : Tw h a) (O : GOk g) (VO : VOk V) {x : Int32} {y : Int32} {b : Int32} {z : Int32} : Cal G kX5_grind 3 0 0 [.ref a, .int x, .int y, .int b, .int z] (twh h a g S V) (rI (sp_grind g x y b z).2.1 (twR h a g S V (nI 1) (nI 2) (nI 3) (sp_grind g x y b z))) := by
  refine Cal.of (by decide +kernel) (Nat.le_of_ble_eq_true rfl) (fun c => ?_)
  have hb0 := O.b
  have hj0 := O.j
  have ho0 := O.o
  refine x_aload_n dX5_grind_0 rfl rfl ?_
  refine x_iload_n dX5_grind_1 rfl rfl ?_
  refine x_cSI t_isQuern okX5_isQuern q2178 q2179 dX5_grind_2 rfl rfl (by decide) (Nat.zero_le _) (Nat.zero_le _) (Nat.le_of_ble_eq_true rfl) (fun _ => ?_)
  refine x_if_neB 12 dX5_grind_5 (by decide) (fun e1 => ?_) (fun e1 => ?_)
  · skip
    obtain ⟨k, hk, rfl⟩ := inB_n (n := 2) (by decide) e1
    have xk : (nI k).toNatClampNeg = k := ix_nI (by omega)
    refine x_iload_n dX5_grind_12 rfl rfl ?_
    refine x_iload_n dX5_grind_13 rfl rfl ?_
    refine x_iload dX5_grind_14 rfl ?_
    refine x_cSI t_isMix okX5_isMix q2193 q2194 dX5_grind_16 rfl rfl (by decide) (Nat.zero_le _) (Nat.zero_le _) (Nat.le_of_ble_eq_true rfl) (fun _ => ?_)
    refine x_if_eqB 26 dX5_grind_19 (by decide) (fun e2 => ?_) (fun e2 => ?_)
    · skip
      refine x_iconst (nI 2) dX5_grind_26 (by decide) ?_
      refine x_cVI (t_fails2 T) okX5_fails clX5 q2159 q2161 qs23 dX5_grind_27 (Or.inl T.1) rfl rfl (by decide) (Nat.zero_le _) (Nat.zero_le _) (Nat.le_of_ble_eq_true rfl) (fun _ => ?_)
      refine x_if_eq 35 dX5_grind_30 (by decide) (fun z => False.elim (by revert z; decide)) (fun _ => ?_)
      refine x_iconst (nI 0) dX5_grind_33 (by decide) ?_
      refine x_iret rfl dX5_grind_34 ?_
      rw [show sp_grind g (nI k) y b z = iaeR g from by simp_all [sp_grind, ← pk_mul, ← nI_add, nIl, ixl, nle_i, nlt_i]]
      exact ⟨rfl, by simp only [twR, upd_uu]; try rfl⟩
    · skip
      have hz0 := isMix_nz e2
      refine x_iconst (nI 0) dX5_grind_22 (by decide) ?_
      refine x_goto 27 dX5_grind_23 (by decide) ?_
      refine x_cVI (t_fails0 T) okX5_fails clX5 q2159 q2161 qs23 dX5_grind_27 (Or.inl T.1) rfl rfl (by decide) (Nat.zero_le _) (Nat.zero_le _) (Nat.le_of_ble_eq_true rfl) (fun _ => ?_)
      refine x_if_eq 35 dX5_grind_30 (by decide) (fun _ => ?_) (fun z => False.elim (by revert z; decide))
      refine x_aload_n dX5_grind_35 rfl rfl ?_
      refine tg_g T (.inl q2082) dX5_grind_36 ?_
      refine x_bipush (nI 7) dX5_grind_39 (by decide) ?_
      refine tld1 T rfl (by omega) dX5_grind_41 ?_
      refine x_bipush (nI 12) dX5_grind_42 (by decide) ?_
      refine x_icmp_ne 56 dX5_grind_44 (by decide) (fun e3 => ?_) (fun e3 => ?_)
      · skip
        refine x_iload_n dX5_grind_56 rfl rfl ?_
        refine x_aload_n dX5_grind_57 rfl rfl ?_
        refine tg_g T (.inl q2082) dX5_grind_58 ?_
        refine x_iconst (nI 1) dX5_grind_61 (by decide) ?_
        refine tld1 T rfl (by omega) dX5_grind_62 ?_
        refine x_icmp_le 79 dX5_grind_63 (by decide) (fun e4 => ?_) (fun e4 => ?_)
        · skip
          refine x_iload_n dX5_grind_79 rfl rfl ?_
          refine x_aload_n dX5_grind_80 rfl rfl ?_
          refine tg_g T (.inl q2082) dX5_grind_81 ?_
          refine x_iconst (nI 2) dX5_grind_84 (by decide) ?_
          refine tld1 T rfl (by omega) dX5_grind_85 ?_
          refine x_icmp_le 102 dX5_grind_86 (by decide) (fun e5 => ?_) (fun e5 => ?_)
          · skip
            refine x_iload dX5_grind_102 rfl ?_
            refine x_aload_n dX5_grind_104 rfl rfl ?_
            refine tg_g T (.inl q2082) dX5_grind_105 ?_
            refine x_iconst (nI 3) dX5_grind_108 (by decide) ?_
            refine tld1 T rfl (by omega) dX5_grind_109 ?_
            refine x_icmp_le 126 dX5_grind_110 (by decide) (fun e6 => ?_) (fun e6 => ?_)
            · skip
              refine x_aload_n dX5_grind_126 rfl rfl ?_
              refine x_iload_n dX5_grind_127 rfl rfl ?_
              refine x_iconst (nI 0) dX5_grind_128 (by decide) ?_
              refine x_cVI (t_ofQuern T (by omega)) okX5_ofQuern clX5 q2181 q2183 qs26 dX5_grind_129 (Or.inl T.1) rfl rfl (by decide) (Nat.zero_le _) (Nat.zero_le _) (Nat.le_of_ble_eq_true rfl) (fun _ => ?_)
              refine x_if_ne 143 dX5_grind_132 (by decide) (fun e7 => ?_) (fun e7 => ?_)
              · skip
                refine x_iload_n dX5_grind_143 rfl rfl ?_
                refine x_iload_n dX5_grind_144 rfl rfl ?_
                refine x_iadd dX5_grind_145 ?_
                refine x_iload dX5_grind_146 rfl ?_
                refine x_iadd dX5_grind_148 ?_
                refine x_istore [(5, .int ((y + b) + z)), (0, .ref a), (1, .int (nI k)), (2, .int y), (3, .int b), (4, .int z)] dX5_grind_149 (by decide) rfl ?_
                refine x_aload_n dX5_grind_151 rfl rfl ?_
                refine x_iload_n dX5_grind_152 rfl rfl ?_
                refine x_iload dX5_grind_153 rfl ?_
                refine x_cVI (t_heatBy T (by omega)) okX5_heatBy clX5 q2196 q2198 qs27 dX5_grind_155 (Or.inl T.1) rfl rfl (by decide) (Nat.zero_le _) (Nat.zero_le _) (Nat.le_of_ble_eq_true rfl) (fun _ => ?_)
                refine x_istore [(6, .int (heatBy g k ((y + b) + z))), (5, .int ((y + b) + z)), (0, .ref a), (1, .int (nI k)), (2, .int y), (3, .int b), (4, .int z)] dX5_grind_158 (by decide) rfl ?_
                refine x_iload dX5_grind_160 rfl ?_
                refine x_bipush (nI 9) dX5_grind_162 (by decide) ?_
                refine x_icmp_le 176 dX5_grind_164 (by decide) (fun e8 => ?_) (fun e8 => ?_)
                · skip
                  refine x_aload_n dX5_grind_176 rfl rfl ?_
                  refine x_aload_n dX5_grind_177 rfl rfl ?_
                  refine tg_g T (.inl q2082) dX5_grind_178 ?_
                  refine x_cVV (t_keepsF T VO) okX5_keeps clX5 q2167 q2169 qs25 dX5_grind_181 (Or.inl T.1) rfl rfl (by decide) (Nat.zero_le _) (Nat.zero_le _) (Nat.le_of_ble_eq_true rfl) (fun _ => ?_)
                  refine x_aload_n dX5_grind_184 rfl rfl ?_
                  refine tg_g T (.inl q2082) dX5_grind_185 ?_
                  refine x_bipush (nI 7) dX5_grind_188 (by decide) ?_
                  refine tld1 T rfl (by omega) dX5_grind_190 ?_
                  have hn12 : nBt g < 12 := by
                    rcases Nat.lt_or_ge (nBt g) 12 with l | l
                    · exact l
                    · exact absurd (show g 7 = nI 12 by rw [hb0.1, show nBt g = 12 by omega]) (by assumption)
                  refine x_val (show g 7 = nI (nBt g) from hb0.1) ?_
                  refine x_istore [(7, .int (nI (nBt g))), (6, .int (heatBy g k ((y + b) + z))), (5, .int ((y + b) + z)), (0, .ref a), (1, .int (nI k)), (2, .int y), (3, .int b), (4, .int z)] dX5_grind_191 (by decide) rfl ?_
                  refine x_aload_n dX5_grind_193 rfl rfl ?_
                  refine tg_g T (.inl q2082) dX5_grind_194 ?_
                  refine x_bipush (nI 7) dX5_grind_197 (by decide) ?_
                  refine x_dup2 dX5_grind_199 rfl rfl ?_
                  refine tld1 T rfl (by omega) dX5_grind_200 ?_
                  refine x_iconst (nI 1) dX5_grind_201 (by decide) ?_
                  refine x_iadd dX5_grind_202 ?_
                  refine tst1 T rfl (by omega) dX5_grind_203 ?_
                  refine x_iconst (nI 0) dX5_grind_204 (by decide) ?_
                  refine x_istore [(8, .int (nI 0)), (7, .int (nI (nBt g))), (6, .int (heatBy g k ((y + b) + z))), (5, .int ((y + b) + z)), (0, .ref a), (1, .int (nI k)), (2, .int y), (3, .int b), (4, .int z)] dX5_grind_205 (by decide) rfl ?_
                  refine x_eq (h' := twh h a (zr (upd g 7 ((g 7) + (nI 1))) (25 + 7 * nBt g) 0) (kpS S V g) (kpV V)) rfl rfl rfl ?_
                  refine x_sub [4, 5, 6, 7, 8, 3, 2, 1, 0] (lv' := [(0, .ref a), (1, .int (nI k)), (2, .int y), (3, .int b), (4, .int z), (5, .int ((y + b) + z)), (6, .int (heatBy g k ((y + b) + z))), (7, .int (nI (nBt g))), (8, .int (nI 0))]) rfl ?_
                  refine x_bud (bc' := 0) (bs' := 0) (by first | exact Nat.zero_le _ | omega) (by first | exact Nat.zero_le _ | omega) ?_
                  refine lpN (P := fun i => X G c kX5_grind 3 _ _ _ 0 0 (twh h a (zr (upd g 7 ((g 7) + (nI 1))) (25 + 7 * nBt g) i) (kpS S V g) (kpV V)) 207 [(0, .ref a), (1, .int (nI k)), (2, .int y), (3, .int b), (4, .int z), (5, .int ((y + b) + z)), (6, .int (heatBy g k ((y + b) + z))), (7, .int (nI (nBt g))), (8, .int (nI i))] []) 7 (fun i hi ih => ?_) 0 (Nat.zero_le _)
                  refine x_iload dX5_grind_207 rfl ?_
                  refine x_bipush (nI 7) dX5_grind_209 (by decide) ?_
                  refine x_icmp_ge 229 dX5_grind_211 (by decide) (fun e9 => ?_) (fun e9 => ?_)
                  · skip
                    have ne9 := e9
                    rw [nI_leI (by omega) (by omega)] at ne9
                    refine x_aload_n dX5_grind_229 rfl rfl ?_
                    refine x_iload dX5_grind_230 rfl ?_
                    refine x_iconst (nI 1) dX5_grind_232 (by decide) ?_
                    refine x_iload dX5_grind_233 rfl ?_
                    refine x_cVV (t_laysBatch T (by omega)) okX5_laysBatch clX5 q2200 q2202 qs28 dX5_grind_235 (Or.inl T.1) rfl rfl (by decide) (Nat.zero_le _) (Nat.zero_le _) (Nat.le_of_ble_eq_true rfl) (fun _ => ?_)
                    refine x_aload_n dX5_grind_238 rfl rfl ?_
                    refine x_iload dX5_grind_239 rfl ?_
                    refine x_bipush (nI 6) dX5_grind_241 (by decide) ?_
                    refine x_iload dX5_grind_243 rfl ?_
                    refine x_cVV (t_laysBatch T (by omega)) okX5_laysBatch clX5 q2200 q2202 qs28 dX5_grind_245 (Or.inl T.1) rfl rfl (by decide) (Nat.zero_le _) (Nat.zero_le _) (Nat.le_of_ble_eq_true rfl) (fun _ => ?_)
                    refine x_aload_n dX5_grind_248 rfl rfl ?_
                    refine x_iload dX5_grind_249 rfl ?_
                    refine x_iconst (nI 2) dX5_grind_251 (by decide) ?_
                    refine x_bipush (nI 9) dX5_grind_252 (by decide) ?_
                    refine x_aload_n dX5_grind_254 rfl rfl ?_
                    refine x_iload_n dX5_grind_255 rfl rfl ?_
                    refine x_iconst (nI 0) dX5_grind_256 (by decide) ?_
                    refine x_cVI (t_ofQuern T (by omega)) okX5_ofQuern clX5 q2181 q2183 qs26 dX5_grind_257 (Or.inl T.1) rfl rfl (by decide) (Nat.zero_le _) (Nat.zero_le _) (Nat.le_of_ble_eq_true rfl) (fun _ => ?_)
                    refine x_isub dX5_grind_260 ?_
                    refine x_cVV (t_laysBatch T (by omega)) okX5_laysBatch clX5 q2200 q2202 qs28 dX5_grind_261 (Or.inl T.1) rfl rfl (by decide) (Nat.zero_le _) (Nat.zero_le _) (Nat.le_of_ble_eq_true rfl) (fun _ => ?_)
                    refine x_aload_n dX5_grind_264 rfl rfl ?_
                    refine x_iload dX5_grind_265 rfl ?_
                    refine x_iconst (nI 3) dX5_grind_267 (by decide) ?_
                    refine x_aload_n dX5_grind_268 rfl rfl ?_
                    refine x_iload_n dX5_grind_269 rfl rfl ?_
                    refine x_iload_n dX5_grind_270 rfl rfl ?_
                    refine x_iload_n dX5_grind_271 rfl rfl ?_
                    refine x_iload dX5_grind_272 rfl ?_
                    refine x_cVI (t_biteBy T (by omega) (by assumption)) okX5_biteBy clX5 q2204 q2206 qs29 dX5_grind_274 (Or.inl T.1) rfl rfl (by decide) (Nat.zero_le _) (Nat.zero_le _) (Nat.le_of_ble_eq_true rfl) (fun _ => ?_)
                    refine x_cVV (t_laysBatch T (by omega)) okX5_laysBatch clX5 q2200 q2202 qs28 dX5_grind_277 (Or.inl T.1) rfl rfl (by decide) (Nat.zero_le _) (Nat.zero_le _) (Nat.le_of_ble_eq_true rfl) (fun _ => ?_)
                    refine x_aload_n dX5_grind_280 rfl rfl ?_
                    refine tg_g T (.inl q2082) dX5_grind_281 ?_
                    refine x_iconst (nI 1) dX5_grind_284 (by decide) ?_
                    refine x_dup2 dX5_grind_285 rfl rfl ?_
                    refine tld1 T rfl (by omega) dX5_grind_286 ?_
                    refine x_iload_n dX5_grind_287 rfl rfl ?_
                    refine x_isub dX5_grind_288 ?_
                    refine tst1 T rfl (by omega) dX5_grind_289 ?_
                    refine x_aload_n dX5_grind_290 rfl rfl ?_
                    refine tg_g T (.inl q2082) dX5_grind_291 ?_
                    refine x_iconst (nI 2) dX5_grind_294 (by decide) ?_
                    refine x_dup2 dX5_grind_295 rfl rfl ?_
                    refine tld1 T rfl (by omega) dX5_grind_296 ?_
                    refine x_iload_n dX5_grind_297 rfl rfl ?_
                    refine x_isub dX5_grind_298 ?_
                    refine tst1 T rfl (by omega) dX5_grind_299 ?_
                    refine x_aload_n dX5_grind_300 rfl rfl ?_
                    refine tg_g T (.inl q2082) dX5_grind_301 ?_
                    refine x_iconst (nI 3) dX5_grind_304 (by decide) ?_
                    refine x_dup2 dX5_grind_305 rfl rfl ?_
                    refine tld1 T rfl (by omega) dX5_grind_306 ?_
                    refine x_iload dX5_grind_307 rfl ?_
                    refine x_isub dX5_grind_309 ?_
                    refine tst1 T rfl (by omega) dX5_grind_310 ?_
                    refine x_aload_n dX5_grind_311 rfl rfl ?_
                    refine tg_g T (.inl q2082) dX5_grind_312 ?_
                    refine x_bipush (nI 16) dX5_grind_315 (by decide) ?_
                    refine x_iconst (nI 3) dX5_grind_317 (by decide) ?_
                    refine x_iload_n dX5_grind_318 rfl rfl ?_
                    refine x_imul dX5_grind_319 ?_
                    refine x_val (pk_mul _ _) ?_
                    refine x_iadd dX5_grind_320 ?_
                    refine x_val (nI_add _ _) ?_
                    refine x_dup2 dX5_grind_321 rfl rfl ?_
                    refine tld1 T rfl (by omega) dX5_grind_322 ?_
                    refine x_iconst (nI 1) dX5_grind_323 (by decide) ?_
                    refine x_isub dX5_grind_324 ?_
                    refine tst1 T rfl (by omega) dX5_grind_325 ?_
                    refine x_aload_n dX5_grind_326 rfl rfl ?_
                    refine tg_g T (.inl q2082) dX5_grind_327 ?_
                    refine x_bipush (nI 16) dX5_grind_330 (by decide) ?_
                    refine x_iconst (nI 3) dX5_grind_332 (by decide) ?_
                    refine x_iload_n dX5_grind_333 rfl rfl ?_
                    refine x_imul dX5_grind_334 ?_
                    refine x_val (pk_mul _ _) ?_
                    refine x_iadd dX5_grind_335 ?_
                    refine x_val (nI_add _ _) ?_
                    refine x_iconst (nI 1) dX5_grind_336 (by decide) ?_
                    refine x_iadd dX5_grind_337 ?_
                    refine x_val (nI_add _ _) ?_
                    refine x_iload dX5_grind_338 rfl ?_
                    refine tst1 T rfl (by omega) dX5_grind_340 ?_
                    refine x_aload_n dX5_grind_341 rfl rfl ?_
                    refine tg_g T (.inl q2082) dX5_grind_342 ?_
                    refine x_bipush (nI 16) dX5_grind_345 (by decide) ?_
                    refine x_iconst (nI 3) dX5_grind_347 (by decide) ?_
                    refine x_iload_n dX5_grind_348 rfl rfl ?_
                    refine x_imul dX5_grind_349 ?_
                    refine x_val (pk_mul _ _) ?_
                    refine x_iadd dX5_grind_350 ?_
                    refine x_val (nI_add _ _) ?_
                    refine x_iconst (nI 2) dX5_grind_351 (by decide) ?_
                    refine x_iadd dX5_grind_352 ?_
                    refine x_val (nI_add _ _) ?_
                    refine x_dup2 dX5_grind_353 rfl rfl ?_
                    refine tld1 T rfl (by omega) dX5_grind_354 ?_
                    refine x_iload dX5_grind_355 rfl ?_
                    refine x_iadd dX5_grind_357 ?_
                    refine tst1 T rfl (by omega) dX5_grind_358 ?_
                    refine x_iload dX5_grind_359 rfl ?_
                    refine x_iret rfl dX5_grind_361 ?_
                    obtain rfl : i = 7 := by omega
                    rw [show sp_grind g (nI k) y b z = okR (nI (nBt g)) (grindG g k y b z) from by simp_all [sp_grind, nIl, nle_i, nlt_i]]
                    exact ⟨rfl, rfl⟩
                  · skip
                    have ne9 := e9
                    rw [nI_leI (by omega) (by omega)] at ne9
                    refine x_aload_n dX5_grind_214 rfl rfl ?_
                    refine x_iload dX5_grind_215 rfl ?_
                    refine x_iload dX5_grind_217 rfl ?_
                    refine x_iconst (nI 0) dX5_grind_219 (by decide) ?_
                    refine x_cVV (t_laysBatch T (by omega)) okX5_laysBatch clX5 q2200 q2202 qs28 dX5_grind_220 (Or.inl T.1) rfl rfl (by decide) (Nat.zero_le _) (Nat.zero_le _) (Nat.le_of_ble_eq_true rfl) (fun _ => ?_)
                    refine x_iinc (j := 8) (nI (i + 1)) [(8, .int (nI (i + 1))), (0, .ref a), (1, .int (nI k)), (2, .int y), (3, .int b), (4, .int z), (5, .int ((y + b) + z)), (6, .int (heatBy g k ((y + b) + z))), (7, .int (nI (nBt g)))] dX5_grind_223 rfl (by first | exact nI_add _ _ | decide) (by decide) rfl ?_
                    refine x_goto 207 dX5_grind_226 (by decide) ?_
                    refine x_sub [1, 2, 3, 4, 5, 6, 7, 8, 0] (lv' := [(0, .ref a), (1, .int (nI k)), (2, .int y), (3, .int b), (4, .int z), (5, .int ((y + b) + z)), (6, .int (heatBy g k ((y + b) + z))), (7, .int (nI (nBt g))), (8, .int (nI (i + 1)))]) rfl ?_
                    refine x_eq (h' := twh h a (zr (upd g 7 ((g 7) + (nI 1))) (25 + 7 * nBt g) (i + 1)) (kpS S V g) (kpV V)) rfl rfl rfl ?_
                    exact ih (by omega)
                · skip
                  refine x_aload_n dX5_grind_167 rfl rfl ?_
                  refine x_iconst (nI 3) dX5_grind_168 (by decide) ?_
                  refine x_iconst (nI 4) dX5_grind_169 (by decide) ?_
                  refine x_iload dX5_grind_170 rfl ?_
                  refine x_cVI (t_refuses T) okX5_refuses clX5 q2163 q2165 qs24 dX5_grind_172 (Or.inl T.1) rfl rfl (by decide) (Nat.zero_le _) (Nat.zero_le _) (Nat.le_of_ble_eq_true rfl) (fun _ => ?_)
                  refine x_iret rfl dX5_grind_175 ?_
                  rw [show sp_grind g (nI k) y b z = refR (nI 4) (heatBy g k ((y + b) + z)) g from by simp_all [sp_grind, ← pk_mul, ← nI_add, nIl, ixl, nle_i, nlt_i]]
                  exact ⟨rfl, by simp only [twR, upd_uu]; try rfl⟩
              · skip
                refine x_aload_n dX5_grind_135 rfl rfl ?_
                refine x_iconst (nI 3) dX5_grind_136 (by decide) ?_
                refine x_iconst (nI 3) dX5_grind_137 (by decide) ?_
                refine x_iload_n dX5_grind_138 rfl rfl ?_
                refine x_cVI (t_refuses T) okX5_refuses clX5 q2163 q2165 qs24 dX5_grind_139 (Or.inl T.1) rfl rfl (by decide) (Nat.zero_le _) (Nat.zero_le _) (Nat.le_of_ble_eq_true rfl) (fun _ => ?_)
                refine x_iret rfl dX5_grind_142 ?_
                rw [show sp_grind g (nI k) y b z = refR (nI 3) (nI k) g from by simp_all [sp_grind, ← pk_mul, ← nI_add, nIl, ixl, nle_i, nlt_i]]
                exact ⟨rfl, by simp only [twR, upd_uu]; try rfl⟩
            · skip
              refine x_aload_n dX5_grind_113 rfl rfl ?_
              refine x_iconst (nI 3) dX5_grind_114 (by decide) ?_
              refine x_iconst (nI 2) dX5_grind_115 (by decide) ?_
              refine x_aload_n dX5_grind_116 rfl rfl ?_
              refine tg_g T (.inl q2082) dX5_grind_117 ?_
              refine x_iconst (nI 3) dX5_grind_120 (by decide) ?_
              refine tld1 T rfl (by omega) dX5_grind_121 ?_
              refine x_cVI (t_refuses T) okX5_refuses clX5 q2163 q2165 qs24 dX5_grind_122 (Or.inl T.1) rfl rfl (by decide) (Nat.zero_le _) (Nat.zero_le _) (Nat.le_of_ble_eq_true rfl) (fun _ => ?_)
              refine x_iret rfl dX5_grind_125 ?_
              rw [show sp_grind g (nI k) y b z = refR (nI 2) (g 3) g from by simp_all [sp_grind, ← pk_mul, ← nI_add, nIl, ixl, nle_i, nlt_i]]
              exact ⟨rfl, by simp only [twR, upd_uu]; try rfl⟩
          · skip
            refine x_aload_n dX5_grind_89 rfl rfl ?_
            refine x_iconst (nI 3) dX5_grind_90 (by decide) ?_
            refine x_iconst (nI 2) dX5_grind_91 (by decide) ?_
            refine x_aload_n dX5_grind_92 rfl rfl ?_
            refine tg_g T (.inl q2082) dX5_grind_93 ?_
            refine x_iconst (nI 2) dX5_grind_96 (by decide) ?_
            refine tld1 T rfl (by omega) dX5_grind_97 ?_
            refine x_cVI (t_refuses T) okX5_refuses clX5 q2163 q2165 qs24 dX5_grind_98 (Or.inl T.1) rfl rfl (by decide) (Nat.zero_le _) (Nat.zero_le _) (Nat.le_of_ble_eq_true rfl) (fun _ => ?_)
            refine x_iret rfl dX5_grind_101 ?_
            rw [show sp_grind g (nI k) y b z = refR (nI 2) (g 2) g from by simp_all [sp_grind, ← pk_mul, ← nI_add, nIl, ixl, nle_i, nlt_i]]
            exact ⟨rfl, by simp only [twR, upd_uu]; try rfl⟩
        · skip
          refine x_aload_n dX5_grind_66 rfl rfl ?_
          refine x_iconst (nI 3) dX5_grind_67 (by decide) ?_
          refine x_iconst (nI 2) dX5_grind_68 (by decide) ?_
          refine x_aload_n dX5_grind_69 rfl rfl ?_
          refine tg_g T (.inl q2082) dX5_grind_70 ?_
          refine x_iconst (nI 1) dX5_grind_73 (by decide) ?_
          refine tld1 T rfl (by omega) dX5_grind_74 ?_
          refine x_cVI (t_refuses T) okX5_refuses clX5 q2163 q2165 qs24 dX5_grind_75 (Or.inl T.1) rfl rfl (by decide) (Nat.zero_le _) (Nat.zero_le _) (Nat.le_of_ble_eq_true rfl) (fun _ => ?_)
          refine x_iret rfl dX5_grind_78 ?_
          rw [show sp_grind g (nI k) y b z = refR (nI 2) (g 1) g from by simp_all [sp_grind, ← pk_mul, ← nI_add, nIl, ixl, nle_i, nlt_i]]
          exact ⟨rfl, by simp only [twR, upd_uu]; try rfl⟩
      · skip
        refine x_aload_n dX5_grind_47 rfl rfl ?_
        refine x_iconst (nI 3) dX5_grind_48 (by decide) ?_
        refine x_iconst (nI 1) dX5_grind_49 (by decide) ?_
        refine x_bipush (nI 12) dX5_grind_50 (by decide) ?_
        refine x_cVI (t_refuses T) okX5_refuses clX5 q2163 q2165 qs24 dX5_grind_52 (Or.inl T.1) rfl rfl (by decide) (Nat.zero_le _) (Nat.zero_le _) (Nat.le_of_ble_eq_true rfl) (fun _ => ?_)
        refine x_iret rfl dX5_grind_55 ?_
        rw [show sp_grind g (nI k) y b z = refR (nI 1) (nI 12) g from by simp_all [sp_grind, ← pk_mul, ← nI_add, nIl, ixl, nle_i, nlt_i]]
        exact ⟨rfl, by simp only [twR, upd_uu]; try rfl⟩
  · skip
    refine x_iconst (nI 1) dX5_grind_8 (by decide) ?_
    refine x_goto 27 dX5_grind_9 (by decide) ?_
    refine x_cVI (t_fails1 T) okX5_fails clX5 q2159 q2161 qs23 dX5_grind_27 (Or.inl T.1) rfl rfl (by decide) (Nat.zero_le _) (Nat.zero_le _) (Nat.le_of_ble_eq_true rfl) (fun _ => ?_)
    refine x_if_eq 35 dX5_grind_30 (by decide) (fun z => False.elim (by revert z; decide)) (fun _ => ?_)
    refine x_iconst (nI 0) dX5_grind_33 (by decide) ?_
    refine x_iret rfl dX5_grind_34 ?_
    rw [show sp_grind g x y b z = iobR g from by simp_all [sp_grind, ← pk_mul, ← nI_add, nIl, ixl, nle_i, nlt_i]]
    exact ⟨rfl, by simp only [twR, upd_uu]; try rfl⟩
theorem t_mix {G : GG} {h : AH} {a : Nat} {g : Nat → Int32} {S : Nat → Nat → Int32} {V : Nat → Int32} (T : Tw h a) (O : GOk g) (VO : VOk V) {x : Int32} {y : Int32} : Cal G kX5_mix 2 0 0 [.ref a, .int x, .int y] (twh h a g S V) (rI (sp_mix g x y).2.1 (twR h a g S V (nI 1) (nI 2) (nI 3) (sp_mix g x y))) := by
  refine Cal.of (by decide +kernel) (Nat.le_of_ble_eq_true rfl) (fun c => ?_)
  have hb0 := O.b
  have hj0 := O.j
  have ho0 := O.o
  refine x_aload_n dX5_mix_0 rfl rfl ?_
  refine x_aload_n dX5_mix_1 rfl rfl ?_
  refine x_iload_n dX5_mix_2 rfl rfl ?_
  refine x_cVI (t_isBatch T) okX5_isBatch clX5 q2219 q2221 qs30 dX5_mix_3 (Or.inl T.1) rfl rfl (by decide) (Nat.zero_le _) (Nat.zero_le _) (Nat.le_of_ble_eq_true rfl) (fun _ => ?_)
  refine x_if_neB 13 dX5_mix_6 (by decide) (fun e1 => ?_) (fun e1 => ?_)
  · skip
    obtain ⟨k, hk, rfl⟩ := inB_m O.b.1 (by omega) e1
    have xk : (nI k).toNatClampNeg = k := ix_nI (by omega)
    refine x_iload_n dX5_mix_13 rfl rfl ?_
    refine x_iconst (nI 1) dX5_mix_14 (by decide) ?_
    refine x_bipush (nI 20) dX5_mix_15 (by decide) ?_
    refine x_cSI t_in okX5_in q2156 q2157 dX5_mix_17 rfl rfl (by decide) (Nat.zero_le _) (Nat.zero_le _) (Nat.le_of_ble_eq_true rfl) (fun _ => ?_)
    refine x_if_eqB 27 dX5_mix_20 (by decide) (fun e2 => ?_) (fun e2 => ?_)
    · skip
      refine x_iconst (nI 2) dX5_mix_27 (by decide) ?_
      refine x_cVI (t_fails2 T) okX5_fails clX5 q2159 q2161 qs23 dX5_mix_28 (Or.inl T.1) rfl rfl (by decide) (Nat.zero_le _) (Nat.zero_le _) (Nat.le_of_ble_eq_true rfl) (fun _ => ?_)
      refine x_if_eq 36 dX5_mix_31 (by decide) (fun z => False.elim (by revert z; decide)) (fun _ => ?_)
      refine x_iconst (nI 0) dX5_mix_34 (by decide) ?_
      refine x_iret rfl dX5_mix_35 ?_
      rw [show sp_mix g (nI k) y = iaeR g from by simp_all [sp_mix, ← pk_mul, ← nI_add, nIl, ixl, nle_i, nlt_i, mixG]]
      exact ⟨rfl, by simp only [twR, upd_uu]; try rfl⟩
    · skip
      refine x_iconst (nI 0) dX5_mix_23 (by decide) ?_
      refine x_goto 28 dX5_mix_24 (by decide) ?_
      refine x_cVI (t_fails0 T) okX5_fails clX5 q2159 q2161 qs23 dX5_mix_28 (Or.inl T.1) rfl rfl (by decide) (Nat.zero_le _) (Nat.zero_le _) (Nat.le_of_ble_eq_true rfl) (fun _ => ?_)
      refine x_if_eq 36 dX5_mix_31 (by decide) (fun _ => ?_) (fun z => False.elim (by revert z; decide))
      refine x_aload_n dX5_mix_36 rfl rfl ?_
      refine x_iload_n dX5_mix_37 rfl rfl ?_
      refine x_iconst (nI 0) dX5_mix_38 (by decide) ?_
      refine x_cVI (t_ofBatch T (by omega)) okX5_ofBatch clX5 q2223 q2225 qs31 dX5_mix_39 (Or.inl T.1) rfl rfl (by decide) (Nat.zero_le _) (Nat.zero_le _) (Nat.le_of_ble_eq_true rfl) (fun _ => ?_)
      refine x_if_eq 59 dX5_mix_42 (by decide) (fun e3 => ?_) (fun e3 => ?_)
      · skip
        refine x_iload_n dX5_mix_59 rfl rfl ?_
        refine x_aload_n dX5_mix_60 rfl rfl ?_
        refine tg_g T (.inl q2082) dX5_mix_61 ?_
        refine x_iconst (nI 4) dX5_mix_64 (by decide) ?_
        refine tld1 T rfl (by omega) dX5_mix_65 ?_
        refine x_icmp_le 82 dX5_mix_66 (by decide) (fun e4 => ?_) (fun e4 => ?_)
        · skip
          refine x_aload_n dX5_mix_82 rfl rfl ?_
          refine x_aload_n dX5_mix_83 rfl rfl ?_
          refine tg_g T (.inl q2082) dX5_mix_84 ?_
          refine x_cVV (t_keepsF T VO) okX5_keeps clX5 q2167 q2169 qs25 dX5_mix_87 (Or.inl T.1) rfl rfl (by decide) (Nat.zero_le _) (Nat.zero_le _) (Nat.le_of_ble_eq_true rfl) (fun _ => ?_)
          refine x_aload_n dX5_mix_90 rfl rfl ?_
          refine tg_g T (.inl q2082) dX5_mix_91 ?_
          refine x_iconst (nI 4) dX5_mix_94 (by decide) ?_
          refine x_dup2 dX5_mix_95 rfl rfl ?_
          refine tld1 T rfl (by omega) dX5_mix_96 ?_
          refine x_iload_n dX5_mix_97 rfl rfl ?_
          refine x_isub dX5_mix_98 ?_
          refine tst1 T rfl (by omega) dX5_mix_99 ?_
          refine x_aload_n dX5_mix_100 rfl rfl ?_
          refine x_iload_n dX5_mix_101 rfl rfl ?_
          refine x_iconst (nI 0) dX5_mix_102 (by decide) ?_
          refine x_iconst (nI 1) dX5_mix_103 (by decide) ?_
          refine x_cVV (t_laysBatch T (by omega)) okX5_laysBatch clX5 q2200 q2202 qs28 dX5_mix_104 (Or.inl T.1) rfl rfl (by decide) (Nat.zero_le _) (Nat.zero_le _) (Nat.le_of_ble_eq_true rfl) (fun _ => ?_)
          refine x_aload_n dX5_mix_107 rfl rfl ?_
          refine x_iload_n dX5_mix_108 rfl rfl ?_
          refine x_iconst (nI 4) dX5_mix_109 (by decide) ?_
          refine x_iload_n dX5_mix_110 rfl rfl ?_
          refine x_cVV (t_laysBatch T (by omega)) okX5_laysBatch clX5 q2200 q2202 qs28 dX5_mix_111 (Or.inl T.1) rfl rfl (by decide) (Nat.zero_le _) (Nat.zero_le _) (Nat.le_of_ble_eq_true rfl) (fun _ => ?_)
          refine x_aload_n dX5_mix_114 rfl rfl ?_
          refine x_iload_n dX5_mix_115 rfl rfl ?_
          refine x_cVI (t_ripeIn T (by first | omega | exact (O.of (by omega)).2.2)) okX5_ripeIn clX5 q2227 q2229 qs32 dX5_mix_116 (Or.inl T.1) rfl rfl (by decide) (Nat.zero_le _) (Nat.zero_le _) (Nat.le_of_ble_eq_true rfl) (fun _ => ?_)
          refine x_iret rfl dX5_mix_119 ?_
          rw [show sp_mix g (nI k) y = okR (ripeIn (upd (upd (upd g 4 ((g 4) - y)) (25 + 7 * k + 0) (nI 1)) (25 + 7 * k + 4) y) k) (upd (upd (upd g 4 ((g 4) - y)) (25 + 7 * k + 0) (nI 1)) (25 + 7 * k + 4) y) from by simp_all [sp_mix, ← pk_mul, ← nI_add, nIl, ixl, nle_i, nlt_i, mixG]]
          exact ⟨rfl, by simp only [twR, upd_uu]; try rfl⟩
        · skip
          refine x_aload_n dX5_mix_69 rfl rfl ?_
          refine x_iconst (nI 3) dX5_mix_70 (by decide) ?_
          refine x_iconst (nI 2) dX5_mix_71 (by decide) ?_
          refine x_aload_n dX5_mix_72 rfl rfl ?_
          refine tg_g T (.inl q2082) dX5_mix_73 ?_
          refine x_iconst (nI 4) dX5_mix_76 (by decide) ?_
          refine tld1 T rfl (by omega) dX5_mix_77 ?_
          refine x_cVI (t_refuses T) okX5_refuses clX5 q2163 q2165 qs24 dX5_mix_78 (Or.inl T.1) rfl rfl (by decide) (Nat.zero_le _) (Nat.zero_le _) (Nat.le_of_ble_eq_true rfl) (fun _ => ?_)
          refine x_iret rfl dX5_mix_81 ?_
          rw [show sp_mix g (nI k) y = refR (nI 2) (g 4) g from by simp_all [sp_mix, ← pk_mul, ← nI_add, nIl, ixl, nle_i, nlt_i, mixG]]
          exact ⟨rfl, by simp only [twR, upd_uu]; try rfl⟩
      · skip
        refine x_aload_n dX5_mix_45 rfl rfl ?_
        refine x_iconst (nI 3) dX5_mix_46 (by decide) ?_
        refine x_bipush (nI 7) dX5_mix_47 (by decide) ?_
        refine x_aload_n dX5_mix_49 rfl rfl ?_
        refine x_iload_n dX5_mix_50 rfl rfl ?_
        refine x_iconst (nI 0) dX5_mix_51 (by decide) ?_
        refine x_cVI (t_ofBatch T (by omega)) okX5_ofBatch clX5 q2223 q2225 qs31 dX5_mix_52 (Or.inl T.1) rfl rfl (by decide) (Nat.zero_le _) (Nat.zero_le _) (Nat.le_of_ble_eq_true rfl) (fun _ => ?_)
        refine x_cVI (t_refuses T) okX5_refuses clX5 q2163 q2165 qs24 dX5_mix_55 (Or.inl T.1) rfl rfl (by decide) (Nat.zero_le _) (Nat.zero_le _) (Nat.le_of_ble_eq_true rfl) (fun _ => ?_)
        refine x_iret rfl dX5_mix_58 ?_
        rw [show sp_mix g (nI k) y = refR (nI 7) (gb g k 0) g from by simp_all [sp_mix, ← pk_mul, ← nI_add, nIl, ixl, nle_i, nlt_i, mixG]]
        exact ⟨rfl, by simp only [twR, upd_uu]; try rfl⟩
  · skip
    refine x_iconst (nI 1) dX5_mix_9 (by decide) ?_
    refine x_goto 28 dX5_mix_10 (by decide) ?_
    refine x_cVI (t_fails1 T) okX5_fails clX5 q2159 q2161 qs23 dX5_mix_28 (Or.inl T.1) rfl rfl (by decide) (Nat.zero_le _) (Nat.zero_le _) (Nat.le_of_ble_eq_true rfl) (fun _ => ?_)
    refine x_if_eq 36 dX5_mix_31 (by decide) (fun z => False.elim (by revert z; decide)) (fun _ => ?_)
    refine x_iconst (nI 0) dX5_mix_34 (by decide) ?_
    refine x_iret rfl dX5_mix_35 ?_
    rw [show sp_mix g x y = iobR g from by simp_all [sp_mix, ← pk_mul, ← nI_add, nIl, ixl, nle_i, nlt_i, mixG]]
    exact ⟨rfl, by simp only [twR, upd_uu]; try rfl⟩
theorem t_batchOf {G : GG} {h : AH} {a : Nat} {g : Nat → Int32} {S : Nat → Nat → Int32} {V : Nat → Int32} (T : Tw h a) (O : GOk g) {x : Int32} {y : Int32} : Cal G kX5_batchOf 2 0 0 [.ref a, .int x, .int y] (twh h a g S V) (rI (sp_batchOf g x y).2 (twQ h a g S V (sp_batchOf g x y))) := by
  refine Cal.of (by decide +kernel) (Nat.le_of_ble_eq_true rfl) (fun c => ?_)
  have hb0 := O.b
  have hj0 := O.j
  have ho0 := O.o
  refine x_aload_n dX5_batchOf_0 rfl rfl ?_
  refine x_aload_n dX5_batchOf_1 rfl rfl ?_
  refine x_iload_n dX5_batchOf_2 rfl rfl ?_
  refine x_cVI (t_isBatch T) okX5_isBatch clX5 q2219 q2221 qs30 dX5_batchOf_3 (Or.inl T.1) rfl rfl (by decide) (Nat.zero_le _) (Nat.zero_le _) (Nat.le_of_ble_eq_true rfl) (fun _ => ?_)
  refine x_if_neB 13 dX5_batchOf_6 (by decide) (fun e1 => ?_) (fun e1 => ?_)
  · skip
    obtain ⟨k, hk, rfl⟩ := inB_m O.b.1 (by omega) e1
    have xk : (nI k).toNatClampNeg = k := ix_nI (by omega)
    refine x_iload_n dX5_batchOf_13 rfl rfl ?_
    refine x_iconst (nI 0) dX5_batchOf_14 (by decide) ?_
    refine x_bipush (nI 6) dX5_batchOf_15 (by decide) ?_
    refine x_cSI t_in okX5_in q2156 q2157 dX5_batchOf_17 rfl rfl (by decide) (Nat.zero_le _) (Nat.zero_le _) (Nat.le_of_ble_eq_true rfl) (fun _ => ?_)
    refine x_if_eqB 27 dX5_batchOf_20 (by decide) (fun e2 => ?_) (fun e2 => ?_)
    · skip
      refine x_iconst (nI 2) dX5_batchOf_27 (by decide) ?_
      refine x_cVI (t_fails2 T) okX5_fails clX5 q2159 q2161 qs23 dX5_batchOf_28 (Or.inl T.1) rfl rfl (by decide) (Nat.zero_le _) (Nat.zero_le _) (Nat.le_of_ble_eq_true rfl) (fun _ => ?_)
      refine x_if_eq 38 dX5_batchOf_31 (by decide) (fun z => False.elim (by revert z; decide)) (fun _ => ?_)
      refine x_iconst (nI 0) dX5_batchOf_34 (by decide) ?_
      refine x_goto 44 dX5_batchOf_35 (by decide) ?_
      refine x_iret rfl dX5_batchOf_44 ?_
      rw [show sp_batchOf g (nI k) y = (2, nI 0) from by simp_all [sp_batchOf, ← pk_mul, ← nI_add, nIl, ixl, nle_i, nlt_i]]
      exact ⟨rfl, by simp only [twQ, upd_uu]⟩
    · skip
      obtain ⟨w, hw, rfl⟩ := inB_n (n := 6) (by decide) e2
      have xw : (nI w).toNatClampNeg = w := ix_nI (by omega)
      refine x_iconst (nI 0) dX5_batchOf_23 (by decide) ?_
      refine x_goto 28 dX5_batchOf_24 (by decide) ?_
      refine x_cVI (t_fails0 T) okX5_fails clX5 q2159 q2161 qs23 dX5_batchOf_28 (Or.inl T.1) rfl rfl (by decide) (Nat.zero_le _) (Nat.zero_le _) (Nat.le_of_ble_eq_true rfl) (fun _ => ?_)
      refine x_if_eq 38 dX5_batchOf_31 (by decide) (fun _ => ?_) (fun z => False.elim (by revert z; decide))
      refine x_aload_n dX5_batchOf_38 rfl rfl ?_
      refine x_iload_n dX5_batchOf_39 rfl rfl ?_
      refine x_iload_n dX5_batchOf_40 rfl rfl ?_
      refine x_cVI (t_ofBatch T (by omega)) okX5_ofBatch clX5 q2223 q2225 qs31 dX5_batchOf_41 (Or.inl T.1) rfl rfl (by decide) (Nat.zero_le _) (Nat.zero_le _) (Nat.le_of_ble_eq_true rfl) (fun _ => ?_)
      refine x_iret rfl dX5_batchOf_44 ?_
      rw [show sp_batchOf g (nI k) (nI w) = (0, gb g k w) from by simp_all [sp_batchOf, ← pk_mul, ← nI_add, nIl, ixl, nle_i, nlt_i]]
      exact ⟨rfl, by simp only [twQ, upd_uu]⟩
  · skip
    refine x_iconst (nI 1) dX5_batchOf_9 (by decide) ?_
    refine x_goto 28 dX5_batchOf_10 (by decide) ?_
    refine x_cVI (t_fails1 T) okX5_fails clX5 q2159 q2161 qs23 dX5_batchOf_28 (Or.inl T.1) rfl rfl (by decide) (Nat.zero_le _) (Nat.zero_le _) (Nat.le_of_ble_eq_true rfl) (fun _ => ?_)
    refine x_if_eq 38 dX5_batchOf_31 (by decide) (fun z => False.elim (by revert z; decide)) (fun _ => ?_)
    refine x_iconst (nI 0) dX5_batchOf_34 (by decide) ?_
    refine x_goto 44 dX5_batchOf_35 (by decide) ?_
    refine x_iret rfl dX5_batchOf_44 ?_
    rw [show sp_batchOf g x y = (1, nI 0) from by simp_all [sp_batchOf, ← pk_mul, ← nI_add, nIl, ixl, nle_i, nlt_i]]
    exact ⟨rfl, by simp only [twQ, upd_uu]⟩
theorem t_open {G : GG} {h : AH} {a : Nat} {g : Nat → Int32} {S : Nat → Nat → Int32} {V : Nat → Int32} (T : Tw h a) (O : GOk g) (VO : VOk V) {x : Int32} : Cal G kX5_open 5 0 0 [.ref a, .int x] (twh h a g S V) (rI (sp_open g x).2.1 (twR h a g S V (nI 1) (nI 0) (nI 2) (sp_open g x))) := by
  refine Cal.of (by decide +kernel) (Nat.le_of_ble_eq_true rfl) (fun c => ?_)
  have hb0 := O.b
  have hj0 := O.j
  have ho0 := O.o
  refine x_aload_n dX5_open_0 rfl rfl ?_
  refine x_aload_n dX5_open_1 rfl rfl ?_
  refine x_iload_n dX5_open_2 rfl rfl ?_
  refine x_cVI (t_isJar T) okX5_isJar clX5 q2247 q2249 qs34 dX5_open_3 (Or.inl T.1) rfl rfl (by decide) (Nat.zero_le _) (Nat.zero_le _) (Nat.le_of_ble_eq_true rfl) (fun _ => ?_)
  refine x_if_eqB 13 dX5_open_6 (by decide) (fun e1 => ?_) (fun e1 => ?_)
  · skip
    refine x_iconst (nI 1) dX5_open_13 (by decide) ?_
    refine x_cVI (t_fails1 T) okX5_fails clX5 q2159 q2161 qs23 dX5_open_14 (Or.inl T.1) rfl rfl (by decide) (Nat.zero_le _) (Nat.zero_le _) (Nat.le_of_ble_eq_true rfl) (fun _ => ?_)
    refine x_if_eq 22 dX5_open_17 (by decide) (fun z => False.elim (by revert z; decide)) (fun _ => ?_)
    refine x_iconst (nI 0) dX5_open_20 (by decide) ?_
    refine x_iret rfl dX5_open_21 ?_
    rw [show sp_open g x = iobR g from by simp_all [sp_open, ← pk_mul, ← nI_add, nIl, ixl, nle_i, nlt_i]]
    exact ⟨rfl, by simp only [twR, upd_uu]; try rfl⟩
  · skip
    obtain ⟨k, hk, rfl⟩ := inB_m O.j.1 (by omega) e1
    have xk : (nI k).toNatClampNeg = k := ix_nI (by omega)
    refine x_iconst (nI 0) dX5_open_9 (by decide) ?_
    refine x_goto 14 dX5_open_10 (by decide) ?_
    refine x_cVI (t_fails0 T) okX5_fails clX5 q2159 q2161 qs23 dX5_open_14 (Or.inl T.1) rfl rfl (by decide) (Nat.zero_le _) (Nat.zero_le _) (Nat.le_of_ble_eq_true rfl) (fun _ => ?_)
    refine x_if_eq 22 dX5_open_17 (by decide) (fun _ => ?_) (fun z => False.elim (by revert z; decide))
    refine x_aload_n dX5_open_22 rfl rfl ?_
    refine x_iload_n dX5_open_23 rfl rfl ?_
    refine x_iconst (nI 0) dX5_open_24 (by decide) ?_
    refine x_cVI (t_ofJar T (by omega)) okX5_ofJar clX5 q2251 q2253 qs35 dX5_open_25 (Or.inl T.1) rfl rfl (by decide) (Nat.zero_le _) (Nat.zero_le _) (Nat.le_of_ble_eq_true rfl) (fun _ => ?_)
    refine x_if_eq 45 dX5_open_28 (by decide) (fun e2 => ?_) (fun e2 => ?_)
    · skip
      refine x_aload_n dX5_open_45 rfl rfl ?_
      refine x_aload_n dX5_open_46 rfl rfl ?_
      refine tg_g T (.inl q2082) dX5_open_47 ?_
      refine x_cVV (t_keepsF T VO) okX5_keeps clX5 q2167 q2169 qs25 dX5_open_50 (Or.inl T.1) rfl rfl (by decide) (Nat.zero_le _) (Nat.zero_le _) (Nat.le_of_ble_eq_true rfl) (fun _ => ?_)
      refine x_aload_n dX5_open_53 rfl rfl ?_
      refine x_iload_n dX5_open_54 rfl rfl ?_
      refine x_iconst (nI 1) dX5_open_55 (by decide) ?_
      refine x_cVV (t_becomes T O (by omega) (by omega)) okX5_becomes clX5 q2255 q2257 qs36 dX5_open_56 (Or.inl T.1) rfl rfl (by decide) (Nat.zero_le _) (Nat.zero_le _) (Nat.le_of_ble_eq_true rfl) (fun _ => ?_)
      refine x_aload_n dX5_open_59 rfl rfl ?_
      refine x_iload_n dX5_open_60 rfl rfl ?_
      refine x_iconst (nI 3) dX5_open_61 (by decide) ?_
      refine x_cVI (t_ofJar T (by omega)) okX5_ofJar clX5 q2251 q2253 qs35 dX5_open_62 (Or.inl T.1) rfl rfl (by decide) (Nat.zero_le _) (Nat.zero_le _) (Nat.le_of_ble_eq_true rfl) (fun _ => ?_)
      refine x_iret rfl dX5_open_65 ?_
      rw [show sp_open g (nI k) = okR (gj (becomesG g k (nI 1)) k 3) (becomesG g k (nI 1)) from by simp_all [sp_open, ← pk_mul, ← nI_add, nIl, ixl, nle_i, nlt_i]]
      exact ⟨rfl, by simp only [twR, upd_uu]; try rfl⟩
    · skip
      refine x_aload_n dX5_open_31 rfl rfl ?_
      refine x_iconst (nI 2) dX5_open_32 (by decide) ?_
      refine x_bipush (nI 8) dX5_open_33 (by decide) ?_
      refine x_aload_n dX5_open_35 rfl rfl ?_
      refine x_iload_n dX5_open_36 rfl rfl ?_
      refine x_iconst (nI 0) dX5_open_37 (by decide) ?_
      refine x_cVI (t_ofJar T (by omega)) okX5_ofJar clX5 q2251 q2253 qs35 dX5_open_38 (Or.inl T.1) rfl rfl (by decide) (Nat.zero_le _) (Nat.zero_le _) (Nat.le_of_ble_eq_true rfl) (fun _ => ?_)
      refine x_cVI (t_refuses T) okX5_refuses clX5 q2163 q2165 qs24 dX5_open_41 (Or.inl T.1) rfl rfl (by decide) (Nat.zero_le _) (Nat.zero_le _) (Nat.le_of_ble_eq_true rfl) (fun _ => ?_)
      refine x_iret rfl dX5_open_44 ?_
      rw [show sp_open g (nI k) = refR (nI 8) (gj g k 0) g from by simp_all [sp_open, ← pk_mul, ← nI_add, nIl, ixl, nle_i, nlt_i]]
      exact ⟨rfl, by simp only [twR, upd_uu]; try rfl⟩
theorem t_sell {G : GG} {h : AH} {a : Nat} {g : Nat → Int32} {S : Nat → Nat → Int32} {V : Nat → Int32} (T : Tw h a) (O : GOk g) (VO : VOk V) {x : Int32} : Cal G kX5_sell 5 0 0 [.ref a, .int x] (twh h a g S V) (rI (sp_sell g x).2.1 (twR h a g S V (nI 1) (nI 0) (nI 2) (sp_sell g x))) := by
  refine Cal.of (by decide +kernel) (Nat.le_of_ble_eq_true rfl) (fun c => ?_)
  have hb0 := O.b
  have hj0 := O.j
  have ho0 := O.o
  refine x_aload_n dX5_sell_0 rfl rfl ?_
  refine x_aload_n dX5_sell_1 rfl rfl ?_
  refine x_iload_n dX5_sell_2 rfl rfl ?_
  refine x_cVI (t_isJar T) okX5_isJar clX5 q2247 q2249 qs34 dX5_sell_3 (Or.inl T.1) rfl rfl (by decide) (Nat.zero_le _) (Nat.zero_le _) (Nat.le_of_ble_eq_true rfl) (fun _ => ?_)
  refine x_if_eqB 13 dX5_sell_6 (by decide) (fun e1 => ?_) (fun e1 => ?_)
  · skip
    refine x_iconst (nI 1) dX5_sell_13 (by decide) ?_
    refine x_cVI (t_fails1 T) okX5_fails clX5 q2159 q2161 qs23 dX5_sell_14 (Or.inl T.1) rfl rfl (by decide) (Nat.zero_le _) (Nat.zero_le _) (Nat.le_of_ble_eq_true rfl) (fun _ => ?_)
    refine x_if_eq 22 dX5_sell_17 (by decide) (fun z => False.elim (by revert z; decide)) (fun _ => ?_)
    refine x_iconst (nI 0) dX5_sell_20 (by decide) ?_
    refine x_iret rfl dX5_sell_21 ?_
    rw [show sp_sell g x = iobR g from by simp_all [sp_sell, ← pk_mul, ← nI_add, nIl, ixl, nle_i, nlt_i]]
    exact ⟨rfl, by simp only [twR, upd_uu]; try rfl⟩
  · skip
    obtain ⟨k, hk, rfl⟩ := inB_m O.j.1 (by omega) e1
    have xk : (nI k).toNatClampNeg = k := ix_nI (by omega)
    refine x_iconst (nI 0) dX5_sell_9 (by decide) ?_
    refine x_goto 14 dX5_sell_10 (by decide) ?_
    refine x_cVI (t_fails0 T) okX5_fails clX5 q2159 q2161 qs23 dX5_sell_14 (Or.inl T.1) rfl rfl (by decide) (Nat.zero_le _) (Nat.zero_le _) (Nat.le_of_ble_eq_true rfl) (fun _ => ?_)
    refine x_if_eq 22 dX5_sell_17 (by decide) (fun _ => ?_) (fun z => False.elim (by revert z; decide))
    refine x_aload_n dX5_sell_22 rfl rfl ?_
    refine x_iload_n dX5_sell_23 rfl rfl ?_
    refine x_iconst (nI 0) dX5_sell_24 (by decide) ?_
    refine x_cVI (t_ofJar T (by omega)) okX5_ofJar clX5 q2251 q2253 qs35 dX5_sell_25 (Or.inl T.1) rfl rfl (by decide) (Nat.zero_le _) (Nat.zero_le _) (Nat.le_of_ble_eq_true rfl) (fun _ => ?_)
    refine x_if_eq 45 dX5_sell_28 (by decide) (fun e2 => ?_) (fun e2 => ?_)
    · skip
      refine x_aload_n dX5_sell_45 rfl rfl ?_
      refine x_iload_n dX5_sell_46 rfl rfl ?_
      refine x_cVI (t_missing T O (by omega) (by omega)) okX5_missing clX5 q2271 q2273 qs39 dX5_sell_47 (Or.inl T.1) rfl rfl (by decide) (Nat.zero_le _) (Nat.zero_le _) (Nat.le_of_ble_eq_true rfl) (fun _ => ?_)
      refine x_if_le 66 dX5_sell_50 (by decide) (fun e3 => ?_) (fun e3 => ?_)
      · skip
        refine x_aload_n dX5_sell_66 rfl rfl ?_
        refine x_aload_n dX5_sell_67 rfl rfl ?_
        refine tg_g T (.inl q2082) dX5_sell_68 ?_
        refine x_cVV (t_keepsF T VO) okX5_keeps clX5 q2167 q2169 qs25 dX5_sell_71 (Or.inl T.1) rfl rfl (by decide) (Nat.zero_le _) (Nat.zero_le _) (Nat.le_of_ble_eq_true rfl) (fun _ => ?_)
        refine x_aload_n dX5_sell_74 rfl rfl ?_
        refine x_iload_n dX5_sell_75 rfl rfl ?_
        refine x_iconst (nI 2) dX5_sell_76 (by decide) ?_
        refine x_cVV (t_becomes T O (by omega) (by omega)) okX5_becomes clX5 q2255 q2257 qs36 dX5_sell_77 (Or.inl T.1) rfl rfl (by decide) (Nat.zero_le _) (Nat.zero_le _) (Nat.le_of_ble_eq_true rfl) (fun _ => ?_)
        refine x_aload_n dX5_sell_80 rfl rfl ?_
        refine x_aload_n dX5_sell_81 rfl rfl ?_
        refine x_iload_n dX5_sell_82 rfl rfl ?_
        refine x_iconst (nI 3) dX5_sell_83 (by decide) ?_
        refine x_cVI (t_ofJar T (by omega)) okX5_ofJar clX5 q2251 q2253 qs35 dX5_sell_84 (Or.inl T.1) rfl rfl (by decide) (Nat.zero_le _) (Nat.zero_le _) (Nat.le_of_ble_eq_true rfl) (fun _ => ?_)
        refine x_iconst (nI 3) dX5_sell_87 (by decide) ?_
        refine x_idiv dX5_sell_88 (by decide) ?_
        refine x_cVV (t_earns T) okX5_earns clX5 q2275 q2277 qs40 dX5_sell_89 (Or.inl T.1) rfl rfl (by decide) (Nat.zero_le _) (Nat.zero_le _) (Nat.le_of_ble_eq_true rfl) (fun _ => ?_)
        refine x_aload_n dX5_sell_92 rfl rfl ?_
        refine x_iload_n dX5_sell_93 rfl rfl ?_
        refine x_iconst (nI 3) dX5_sell_94 (by decide) ?_
        refine x_cVI (t_ofJar T (by omega)) okX5_ofJar clX5 q2251 q2253 qs35 dX5_sell_95 (Or.inl T.1) rfl rfl (by decide) (Nat.zero_le _) (Nat.zero_le _) (Nat.le_of_ble_eq_true rfl) (fun _ => ?_)
        refine x_iconst (nI 3) dX5_sell_98 (by decide) ?_
        refine x_idiv dX5_sell_99 (by decide) ?_
        refine x_iret rfl dX5_sell_100 ?_
        rw [show sp_sell g (nI k) = okR ((gj (earnsG (becomesG g k (nI 2)) ((gj (becomesG g k (nI 2)) k 3) / (nI 3))) k 3) / (nI 3)) (earnsG (becomesG g k (nI 2)) ((gj (becomesG g k (nI 2)) k 3) / (nI 3))) from by simp_all [sp_sell, ← pk_mul, ← nI_add, nIl, ixl, nle_i, nlt_i]]
        exact ⟨rfl, by simp only [twR, upd_uu]; try rfl⟩
      · skip
        refine x_aload_n dX5_sell_53 rfl rfl ?_
        refine x_iconst (nI 2) dX5_sell_54 (by decide) ?_
        refine x_bipush (nI 9) dX5_sell_55 (by decide) ?_
        refine x_aload_n dX5_sell_57 rfl rfl ?_
        refine x_iload_n dX5_sell_58 rfl rfl ?_
        refine x_cVI (t_missing T O (by omega) (by omega)) okX5_missing clX5 q2271 q2273 qs39 dX5_sell_59 (Or.inl T.1) rfl rfl (by decide) (Nat.zero_le _) (Nat.zero_le _) (Nat.le_of_ble_eq_true rfl) (fun _ => ?_)
        refine x_cVI (t_refuses T) okX5_refuses clX5 q2163 q2165 qs24 dX5_sell_62 (Or.inl T.1) rfl rfl (by decide) (Nat.zero_le _) (Nat.zero_le _) (Nat.le_of_ble_eq_true rfl) (fun _ => ?_)
        refine x_iret rfl dX5_sell_65 ?_
        rw [show sp_sell g (nI k) = refR (nI 9) (missing g k) g from by simp_all [sp_sell, ← pk_mul, ← nI_add, nIl, ixl, nle_i, nlt_i]]
        exact ⟨rfl, by simp only [twR, upd_uu]; try rfl⟩
    · skip
      refine x_aload_n dX5_sell_31 rfl rfl ?_
      refine x_iconst (nI 2) dX5_sell_32 (by decide) ?_
      refine x_bipush (nI 8) dX5_sell_33 (by decide) ?_
      refine x_aload_n dX5_sell_35 rfl rfl ?_
      refine x_iload_n dX5_sell_36 rfl rfl ?_
      refine x_iconst (nI 0) dX5_sell_37 (by decide) ?_
      refine x_cVI (t_ofJar T (by omega)) okX5_ofJar clX5 q2251 q2253 qs35 dX5_sell_38 (Or.inl T.1) rfl rfl (by decide) (Nat.zero_le _) (Nat.zero_le _) (Nat.le_of_ble_eq_true rfl) (fun _ => ?_)
      refine x_cVI (t_refuses T) okX5_refuses clX5 q2163 q2165 qs24 dX5_sell_41 (Or.inl T.1) rfl rfl (by decide) (Nat.zero_le _) (Nat.zero_le _) (Nat.le_of_ble_eq_true rfl) (fun _ => ?_)
      refine x_iret rfl dX5_sell_44 ?_
      rw [show sp_sell g (nI k) = refR (nI 8) (gj g k 0) g from by simp_all [sp_sell, ← pk_mul, ← nI_add, nIl, ixl, nle_i, nlt_i]]
      exact ⟨rfl, by simp only [twR, upd_uu]; try rfl⟩
theorem t_jarOf {G : GG} {h : AH} {a : Nat} {g : Nat → Int32} {S : Nat → Nat → Int32} {V : Nat → Int32} (T : Tw h a) (O : GOk g) {x : Int32} {y : Int32} : Cal G kX5_jarOf 4 0 0 [.ref a, .int x, .int y] (twh h a g S V) (rI (sp_jarOf g x y).2 (twQ h a g S V (sp_jarOf g x y))) := by
  refine Cal.of (by decide +kernel) (Nat.le_of_ble_eq_true rfl) (fun c => ?_)
  have hb0 := O.b
  have hj0 := O.j
  have ho0 := O.o
  refine x_aload_n dX5_jarOf_0 rfl rfl ?_
  refine x_aload_n dX5_jarOf_1 rfl rfl ?_
  refine x_iload_n dX5_jarOf_2 rfl rfl ?_
  refine x_cVI (t_isJar T) okX5_isJar clX5 q2247 q2249 qs34 dX5_jarOf_3 (Or.inl T.1) rfl rfl (by decide) (Nat.zero_le _) (Nat.zero_le _) (Nat.le_of_ble_eq_true rfl) (fun _ => ?_)
  refine x_if_neB 13 dX5_jarOf_6 (by decide) (fun e1 => ?_) (fun e1 => ?_)
  · skip
    obtain ⟨k, hk, rfl⟩ := inB_m O.j.1 (by omega) e1
    have xk : (nI k).toNatClampNeg = k := ix_nI (by omega)
    refine x_iload_n dX5_jarOf_13 rfl rfl ?_
    refine x_iconst (nI 0) dX5_jarOf_14 (by decide) ?_
    refine x_iconst (nI 4) dX5_jarOf_15 (by decide) ?_
    refine x_cSI t_in okX5_in q2156 q2157 dX5_jarOf_16 rfl rfl (by decide) (Nat.zero_le _) (Nat.zero_le _) (Nat.le_of_ble_eq_true rfl) (fun _ => ?_)
    refine x_if_eqB 26 dX5_jarOf_19 (by decide) (fun e2 => ?_) (fun e2 => ?_)
    · skip
      refine x_iconst (nI 2) dX5_jarOf_26 (by decide) ?_
      refine x_cVI (t_fails2 T) okX5_fails clX5 q2159 q2161 qs23 dX5_jarOf_27 (Or.inl T.1) rfl rfl (by decide) (Nat.zero_le _) (Nat.zero_le _) (Nat.le_of_ble_eq_true rfl) (fun _ => ?_)
      refine x_if_eq 35 dX5_jarOf_30 (by decide) (fun z => False.elim (by revert z; decide)) (fun _ => ?_)
      refine x_iconst (nI 0) dX5_jarOf_33 (by decide) ?_
      refine x_iret rfl dX5_jarOf_34 ?_
      rw [show sp_jarOf g (nI k) y = (2, nI 0) from by simp_all [sp_jarOf, ← pk_mul, ← nI_add, nIl, ixl, nle_i, nlt_i]]
      exact ⟨rfl, by simp only [twQ, upd_uu]⟩
    · skip
      obtain ⟨w, hw, rfl⟩ := inB_n (n := 4) (by decide) e2
      have xw : (nI w).toNatClampNeg = w := ix_nI (by omega)
      refine x_iconst (nI 0) dX5_jarOf_22 (by decide) ?_
      refine x_goto 27 dX5_jarOf_23 (by decide) ?_
      refine x_cVI (t_fails0 T) okX5_fails clX5 q2159 q2161 qs23 dX5_jarOf_27 (Or.inl T.1) rfl rfl (by decide) (Nat.zero_le _) (Nat.zero_le _) (Nat.le_of_ble_eq_true rfl) (fun _ => ?_)
      refine x_if_eq 35 dX5_jarOf_30 (by decide) (fun _ => ?_) (fun z => False.elim (by revert z; decide))
      refine x_iload_n dX5_jarOf_35 rfl rfl ?_
      refine x_iconst (nI 3) dX5_jarOf_36 (by decide) ?_
      refine x_icmp_ge 49 dX5_jarOf_37 (by decide) (fun e3 => ?_) (fun e3 => ?_)
      · skip
        have ne3 := e3
        rw [nI_leI (by omega) (by omega)] at ne3
        refine x_iload_n dX5_jarOf_49 rfl rfl ?_
        refine x_iconst (nI 4) dX5_jarOf_50 (by decide) ?_
        refine x_icmp_ne 62 dX5_jarOf_51 (by decide) (fun e4 => ?_) (fun e4 => ?_)
        · skip
          have ne4 := e4
          rw [nI_eq (by omega) (by omega)] at ne4
          refine x_aload_n dX5_jarOf_62 rfl rfl ?_
          refine x_iload_n dX5_jarOf_63 rfl rfl ?_
          refine x_iconst (nI 0) dX5_jarOf_64 (by decide) ?_
          refine x_cVI (t_ofJar T (by omega)) okX5_ofJar clX5 q2251 q2253 qs35 dX5_jarOf_65 (Or.inl T.1) rfl rfl (by decide) (Nat.zero_le _) (Nat.zero_le _) (Nat.le_of_ble_eq_true rfl) (fun _ => ?_)
          refine x_if_ne 79 dX5_jarOf_68 (by decide) (fun e5 => ?_) (fun e5 => ?_)
          · skip
            refine x_iconst (nI 0) dX5_jarOf_79 (by decide) ?_
            refine x_iret rfl dX5_jarOf_80 ?_
            rw [show sp_jarOf g (nI k) (nI w) = (0, nI 0) from by simp_all [sp_jarOf, ← pk_mul, ← nI_add, nIl, ixl, nle_i, nlt_i]]
            exact ⟨rfl, by simp only [twQ, upd_uu]⟩
          · skip
            refine x_aload_n dX5_jarOf_71 rfl rfl ?_
            refine x_iload_n dX5_jarOf_72 rfl rfl ?_
            refine x_cVI (t_missing T O (by omega) (by omega)) okX5_missing clX5 q2271 q2273 qs39 dX5_jarOf_73 (Or.inl T.1) rfl rfl (by decide) (Nat.zero_le _) (Nat.zero_le _) (Nat.le_of_ble_eq_true rfl) (fun _ => ?_)
            refine x_goto 80 dX5_jarOf_76 (by decide) ?_
            refine x_iret rfl dX5_jarOf_80 ?_
            rw [show sp_jarOf g (nI k) (nI w) = (0, missing g k) from by simp_all [sp_jarOf, ← pk_mul, ← nI_add, nIl, ixl, nle_i, nlt_i]]
            exact ⟨rfl, by simp only [twQ, upd_uu]⟩
        · skip
          have ne4 := e4
          rw [nI_eq (by omega) (by omega)] at ne4
          refine x_aload_n dX5_jarOf_54 rfl rfl ?_
          refine x_iload_n dX5_jarOf_55 rfl rfl ?_
          refine x_cVI (t_tearOf T O (by omega) (by omega)) okX5_tearOf clX5 q2259 q2261 qs37 dX5_jarOf_56 (Or.inl T.1) rfl rfl (by decide) (Nat.zero_le _) (Nat.zero_le _) (Nat.le_of_ble_eq_true rfl) (fun _ => ?_)
          refine x_goto 80 dX5_jarOf_59 (by decide) ?_
          refine x_iret rfl dX5_jarOf_80 ?_
          rw [show sp_jarOf g (nI k) (nI w) = (0, tearOf g k) from by simp_all [sp_jarOf, ← pk_mul, ← nI_add, nIl, ixl, nle_i, nlt_i]]
          exact ⟨rfl, by simp only [twQ, upd_uu]⟩
      · skip
        have ne3 := e3
        rw [nI_leI (by omega) (by omega)] at ne3
        refine x_aload_n dX5_jarOf_40 rfl rfl ?_
        refine x_iload_n dX5_jarOf_41 rfl rfl ?_
        refine x_iload_n dX5_jarOf_42 rfl rfl ?_
        refine x_cVI (t_ofJar T (by omega)) okX5_ofJar clX5 q2251 q2253 qs35 dX5_jarOf_43 (Or.inl T.1) rfl rfl (by decide) (Nat.zero_le _) (Nat.zero_le _) (Nat.le_of_ble_eq_true rfl) (fun _ => ?_)
        refine x_goto 80 dX5_jarOf_46 (by decide) ?_
        refine x_iret rfl dX5_jarOf_80 ?_
        rw [show sp_jarOf g (nI k) (nI w) = (0, gj g k w) from by simp_all [sp_jarOf, ← pk_mul, ← nI_add, nIl, ixl, nle_i, nlt_i]]
        exact ⟨rfl, by simp only [twQ, upd_uu]⟩
  · skip
    refine x_iconst (nI 1) dX5_jarOf_9 (by decide) ?_
    refine x_goto 27 dX5_jarOf_10 (by decide) ?_
    refine x_cVI (t_fails1 T) okX5_fails clX5 q2159 q2161 qs23 dX5_jarOf_27 (Or.inl T.1) rfl rfl (by decide) (Nat.zero_le _) (Nat.zero_le _) (Nat.le_of_ble_eq_true rfl) (fun _ => ?_)
    refine x_if_eq 35 dX5_jarOf_30 (by decide) (fun z => False.elim (by revert z; decide)) (fun _ => ?_)
    refine x_iconst (nI 0) dX5_jarOf_33 (by decide) ?_
    refine x_iret rfl dX5_jarOf_34 ?_
    rw [show sp_jarOf g x y = (1, nI 0) from by simp_all [sp_jarOf, ← pk_mul, ← nI_add, nIl, ixl, nle_i, nlt_i]]
    exact ⟨rfl, by simp only [twQ, upd_uu]⟩
