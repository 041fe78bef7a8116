/-! THE REFERENCE, first part: its private methods; printed by tools/tw1.py -/
set_option maxRecDepth 100000
theorem rI_of {e v : Int32} {h : AH} (hv : v = e) : rI e h (.inl (some (.int v))) h := ⟨by rw [hv], rfl⟩
theorem rI_of2 {e v : Int32} {h h2 : AH} (hv : v = e) (hh : h2 = h) : rI e h (.inl (some (.int v))) h2 := ⟨by rw [hv], hh⟩
theorem rV_of2 {h h2 : AH} (hh : h2 = h) : rV h (.inl none) h2 := ⟨rfl, hh⟩
theorem t_thrown {G : GG} {h : AH} {a : Nat} {g : Nat → Int32} {S : Nat → Nat → Int32} {V : Nat → Int32} (T : Tw h a)  : Cal G kX5_thrown 0 0 0 [.ref a] (twh h a g S V) (rI (V 34) (twh h a g S V)) := by
  refine Cal.of (by decide +kernel) (Nat.le_of_ble_eq_true rfl) (fun c => ?_)
  refine x_aload_n dX5_thrown_0 rfl rfl ?_
  refine tg_code T (.inl q2090) dX5_thrown_1 ?_
  refine x_iret rfl dX5_thrown_4 ?_
  exact ⟨rfl, rfl⟩
theorem t_in {G : GG} {h : AH} {v lo hi : Int32} : Cal G kX5_in 0 0 0 [.int v, .int lo, .int hi] (h) (rI (bB (inB v lo hi)) h) := by
  refine Cal.of (by decide +kernel) (Nat.le_of_ble_eq_true rfl) (fun c => ?_)
  refine x_iload_n dX5_in_0 rfl rfl ?_
  refine x_iload_n dX5_in_1 rfl rfl ?_
  refine x_icmp_lt 14 dX5_in_2 (by decide) (fun e1 => ?_) (fun e1 => ?_)
  · skip
    refine x_iconst (nI 0) dX5_in_14 (by decide) ?_
    refine x_zret rfl (by decide +kernel) dX5_in_15 ?_
    refine rI_of ?_
    simp only [bB, inB, mn, mx, Bool.and_eq_true, decide_eq_true_eq, Int32.lt_iff_toInt_lt, Int32.le_iff_toInt_le] at *
    split <;> first | rfl | (exfalso; omega)
  · skip
    refine x_iload_n dX5_in_5 rfl rfl ?_
    refine x_iload_n dX5_in_6 rfl rfl ?_
    refine x_icmp_gt 14 dX5_in_7 (by decide) (fun e2 => ?_) (fun e2 => ?_)
    · skip
      refine x_iconst (nI 0) dX5_in_14 (by decide) ?_
      refine x_zret rfl (by decide +kernel) dX5_in_15 ?_
      refine rI_of ?_
      simp only [bB, inB, mn, mx, Bool.and_eq_true, decide_eq_true_eq, Int32.lt_iff_toInt_lt, Int32.le_iff_toInt_le] at *
      split <;> first | rfl | (exfalso; omega)
    · skip
      refine x_iconst (nI 1) dX5_in_10 (by decide) ?_
      refine x_goto 15 dX5_in_11 (by decide) ?_
      refine x_zret rfl (by decide +kernel) dX5_in_15 ?_
      refine rI_of ?_
      simp only [bB, inB, mn, mx, Bool.and_eq_true, decide_eq_true_eq, Int32.lt_iff_toInt_lt, Int32.le_iff_toInt_le] at *
      split <;> first | rfl | (exfalso; omega)
theorem t_less {G : GG} {h : AH} {x y : Int32} : Cal G kX5_less 0 0 0 [.int x, .int y] (h) (rI (mn x y) h) := by
  refine Cal.of (by decide +kernel) (Nat.le_of_ble_eq_true rfl) (fun c => ?_)
  refine x_iload_n dX5_less_0 rfl rfl ?_
  refine x_iload_n dX5_less_1 rfl rfl ?_
  refine x_icmp_ge 9 dX5_less_2 (by decide) (fun e1 => ?_) (fun e1 => ?_)
  · skip
    refine x_iload_n dX5_less_9 rfl rfl ?_
    refine x_iret rfl dX5_less_10 ?_
    refine rI_of ?_
    simp only [bB, inB, mn, mx, Bool.and_eq_true, decide_eq_true_eq, Int32.lt_iff_toInt_lt, Int32.le_iff_toInt_le] at *
    split <;> first | rfl | (exfalso; omega)
  · skip
    refine x_iload_n dX5_less_5 rfl rfl ?_
    refine x_goto 10 dX5_less_6 (by decide) ?_
    refine x_iret rfl dX5_less_10 ?_
    refine rI_of ?_
    simp only [bB, inB, mn, mx, Bool.and_eq_true, decide_eq_true_eq, Int32.lt_iff_toInt_lt, Int32.le_iff_toInt_le] at *
    split <;> first | rfl | (exfalso; omega)
theorem t_more {G : GG} {h : AH} {x y : Int32} : Cal G kX5_more 0 0 0 [.int x, .int y] (h) (rI (mx x y) h) := by
  refine Cal.of (by decide +kernel) (Nat.le_of_ble_eq_true rfl) (fun c => ?_)
  refine x_iload_n dX5_more_0 rfl rfl ?_
  refine x_iload_n dX5_more_1 rfl rfl ?_
  refine x_icmp_le 9 dX5_more_2 (by decide) (fun e1 => ?_) (fun e1 => ?_)
  · skip
    refine x_iload_n dX5_more_9 rfl rfl ?_
    refine x_iret rfl dX5_more_10 ?_
    refine rI_of ?_
    simp only [bB, inB, mn, mx, Bool.and_eq_true, decide_eq_true_eq, Int32.lt_iff_toInt_lt, Int32.le_iff_toInt_le] at *
    split <;> first | rfl | (exfalso; omega)
  · skip
    refine x_iload_n dX5_more_5 rfl rfl ?_
    refine x_goto 10 dX5_more_6 (by decide) ?_
    refine x_iret rfl dX5_more_10 ?_
    refine rI_of ?_
    simp only [bB, inB, mn, mx, Bool.and_eq_true, decide_eq_true_eq, Int32.lt_iff_toInt_lt, Int32.le_iff_toInt_le] at *
    split <;> first | rfl | (exfalso; omega)
theorem t_fails {G : GG} {h : AH} {a : Nat} {g : Nat → Int32} {S : Nat → Nat → Int32} {V : Nat → Int32} (T : Tw h a) {x : Int32} : Cal G kX5_fails 0 0 0 [.ref a, .int x] (twh h a g S V) (rI (bB (decide (0 < x))) (twh h a g S (upd V 34 x))) := by
  refine Cal.of (by decide +kernel) (Nat.le_of_ble_eq_true rfl) (fun c => ?_)
  refine x_aload_n dX5_fails_0 rfl rfl ?_
  refine x_iload_n dX5_fails_1 rfl rfl ?_
  refine tp_code T (.inl q2090) dX5_fails_2 ?_
  refine x_iload_n dX5_fails_5 rfl rfl ?_
  refine x_if_le 13 dX5_fails_6 (by decide) (fun e1 => ?_) (fun e1 => ?_)
  · skip
    refine x_iconst (nI 0) dX5_fails_13 (by decide) ?_
    refine x_zret rfl (by decide +kernel) dX5_fails_14 ?_
    refine rI_of ?_
    simp only [bB, inB, mn, mx, Bool.and_eq_true, decide_eq_true_eq, Int32.lt_iff_toInt_lt, Int32.le_iff_toInt_le] at *
    split <;> first | rfl | (exfalso; omega)
  · skip
    refine x_iconst (nI 1) dX5_fails_9 (by decide) ?_
    refine x_goto 14 dX5_fails_10 (by decide) ?_
    refine x_zret rfl (by decide +kernel) dX5_fails_14 ?_
    refine rI_of ?_
    simp only [bB, inB, mn, mx, Bool.and_eq_true, decide_eq_true_eq, Int32.lt_iff_toInt_lt, Int32.le_iff_toInt_le] at *
    split <;> first | rfl | (exfalso; omega)
theorem t_fails0 {G : GG} {h : AH} {a : Nat} {g : Nat → Int32} {S : Nat → Nat → Int32} {V : Nat → Int32} (T : Tw h a) : Cal G kX5_fails 0 0 0 [.ref a, .int (nI 0)] (twh h a g S V) (rI (nI 0) (twh h a g S (upd V 34 (nI 0)))) := t_fails T
theorem t_fails1 {G : GG} {h : AH} {a : Nat} {g : Nat → Int32} {S : Nat → Nat → Int32} {V : Nat → Int32} (T : Tw h a) : Cal G kX5_fails 0 0 0 [.ref a, .int (nI 1)] (twh h a g S V) (rI (nI 1) (twh h a g S (upd V 34 (nI 1)))) := t_fails T
theorem t_fails2 {G : GG} {h : AH} {a : Nat} {g : Nat → Int32} {S : Nat → Nat → Int32} {V : Nat → Int32} (T : Tw h a) : Cal G kX5_fails 0 0 0 [.ref a, .int (nI 2)] (twh h a g S V) (rI (nI 1) (twh h a g S (upd V 34 (nI 2)))) := t_fails T
theorem t_fails3 {G : GG} {h : AH} {a : Nat} {g : Nat → Int32} {S : Nat → Nat → Int32} {V : Nat → Int32} (T : Tw h a) : Cal G kX5_fails 0 0 0 [.ref a, .int (nI 3)] (twh h a g S V) (rI (nI 1) (twh h a g S (upd V 34 (nI 3)))) := t_fails T
theorem t_refuses {G : GG} {h : AH} {a : Nat} {g : Nat → Int32} {S : Nat → Nat → Int32} {V : Nat → Int32} (T : Tw h a) {x y z : Int32} : Cal G kX5_refuses 0 0 0 [.ref a, .int x, .int y, .int z] (twh h a g S V) (rI 0 (twh h a g S (upd (upd (upd V 34 x) 35 y) 36 z))) := by
  refine Cal.of (by decide +kernel) (Nat.le_of_ble_eq_true rfl) (fun c => ?_)
  refine x_aload_n dX5_refuses_0 rfl rfl ?_
  refine x_iload_n dX5_refuses_1 rfl rfl ?_
  refine tp_code T (.inl q2090) dX5_refuses_2 ?_
  refine x_aload_n dX5_refuses_5 rfl rfl ?_
  refine x_iload_n dX5_refuses_6 rfl rfl ?_
  refine tp_why T (.inl q2091) dX5_refuses_7 ?_
  refine x_aload_n dX5_refuses_10 rfl rfl ?_
  refine x_iload_n dX5_refuses_11 rfl rfl ?_
  refine tp_detail T (.inl q2092) dX5_refuses_12 ?_
  refine x_iconst (nI 0) dX5_refuses_15 (by decide) ?_
  refine x_iret rfl dX5_refuses_16 ?_
  exact ⟨rfl, rfl⟩
theorem t_isQuern {G : GG} {h : AH} {x : Int32} : Cal G kX5_isQuern 1 0 0 [.int x] (h) (rI (bB (inB x 0 2)) h) := by
  refine Cal.of (by decide +kernel) (Nat.le_of_ble_eq_true rfl) (fun c => ?_)
  refine x_iload_n dX5_isQuern_0 rfl rfl ?_
  refine x_iconst (nI 0) dX5_isQuern_1 (by decide) ?_
  refine x_iconst (nI 2) dX5_isQuern_2 (by decide) ?_
  refine x_cSI t_in okX5_in q2156 q2157 dX5_isQuern_3 rfl rfl (by decide) (Nat.zero_le _) (Nat.zero_le _) (Nat.le_of_ble_eq_true rfl) (fun _ => ?_)
  refine x_zret rfl (bB_nar _) dX5_isQuern_6 ?_
  exact ⟨rfl, rfl⟩
theorem t_isBatch {G : GG} {h : AH} {a : Nat} {g : Nat → Int32} {S : Nat → Nat → Int32} {V : Nat → Int32} (T : Tw h a) {x : Int32} : Cal G kX5_isBatch 1 0 0 [.ref a, .int x] (twh h a g S V) (rI (bB (inB x 0 (g 7 - 1))) (twh h a g S V)) := by
  refine Cal.of (by decide +kernel) (Nat.le_of_ble_eq_true rfl) (fun c => ?_)
  refine x_iload_n dX5_isBatch_0 rfl rfl ?_
  refine x_iconst (nI 0) dX5_isBatch_1 (by decide) ?_
  refine x_aload_n dX5_isBatch_2 rfl rfl ?_
  refine tg_g T (.inl q2082) dX5_isBatch_3 ?_
  refine x_bipush (nI 7) dX5_isBatch_6 (by decide) ?_
  refine tld1 T rfl (by omega) dX5_isBatch_8 ?_
  refine x_iconst (nI 1) dX5_isBatch_9 (by decide) ?_
  refine x_isub dX5_isBatch_10 ?_
  refine x_cSI t_in okX5_in q2156 q2157 dX5_isBatch_11 rfl rfl (by decide) (Nat.zero_le _) (Nat.zero_le _) (Nat.le_of_ble_eq_true rfl) (fun _ => ?_)
  refine x_zret rfl (bB_nar _) dX5_isBatch_14 ?_
  exact ⟨rfl, rfl⟩
theorem t_isJar {G : GG} {h : AH} {a : Nat} {g : Nat → Int32} {S : Nat → Nat → Int32} {V : Nat → Int32} (T : Tw h a) {x : Int32} : Cal G kX5_isJar 1 0 0 [.ref a, .int x] (twh h a g S V) (rI (bB (inB x 0 (g 8 - 1))) (twh h a g S V)) := by
  refine Cal.of (by decide +kernel) (Nat.le_of_ble_eq_true rfl) (fun c => ?_)
  refine x_iload_n dX5_isJar_0 rfl rfl ?_
  refine x_iconst (nI 0) dX5_isJar_1 (by decide) ?_
  refine x_aload_n dX5_isJar_2 rfl rfl ?_
  refine tg_g T (.inl q2082) dX5_isJar_3 ?_
  refine x_bipush (nI 8) dX5_isJar_6 (by decide) ?_
  refine tld1 T rfl (by omega) dX5_isJar_8 ?_
  refine x_iconst (nI 1) dX5_isJar_9 (by decide) ?_
  refine x_isub dX5_isJar_10 ?_
  refine x_cSI t_in okX5_in q2156 q2157 dX5_isJar_11 rfl rfl (by decide) (Nat.zero_le _) (Nat.zero_le _) (Nat.le_of_ble_eq_true rfl) (fun _ => ?_)
  refine x_zret rfl (bB_nar _) dX5_isJar_14 ?_
  exact ⟨rfl, rfl⟩
theorem t_isOrder {G : GG} {h : AH} {a : Nat} {g : Nat → Int32} {S : Nat → Nat → Int32} {V : Nat → Int32} (T : Tw h a) {x : Int32} : Cal G kX5_isOrder 1 0 0 [.ref a, .int x] (twh h a g S V) (rI (bB (inB x 0 (g 9 - 1))) (twh h a g S V)) := by
  refine Cal.of (by decide +kernel) (Nat.le_of_ble_eq_true rfl) (fun c => ?_)
  refine x_iload_n dX5_isOrder_0 rfl rfl ?_
  refine x_iconst (nI 0) dX5_isOrder_1 (by decide) ?_
  refine x_aload_n dX5_isOrder_2 rfl rfl ?_
  refine tg_g T (.inl q2082) dX5_isOrder_3 ?_
  refine x_bipush (nI 9) dX5_isOrder_6 (by decide) ?_
  refine tld1 T rfl (by omega) dX5_isOrder_8 ?_
  refine x_iconst (nI 1) dX5_isOrder_9 (by decide) ?_
  refine x_isub dX5_isOrder_10 ?_
  refine x_cSI t_in okX5_in q2156 q2157 dX5_isOrder_11 rfl rfl (by decide) (Nat.zero_le _) (Nat.zero_le _) (Nat.le_of_ble_eq_true rfl) (fun _ => ?_)
  refine x_zret rfl (bB_nar _) dX5_isOrder_14 ?_
  exact ⟨rfl, rfl⟩
theorem t_ofQuern {G : GG} {h : AH} {a : Nat} {g : Nat → Int32} {S : Nat → Nat → Int32} {V : Nat → Int32} (T : Tw h a) {j w : Nat} (hb : j < 3 ∧ w < 3) : Cal G kX5_ofQuern 0 0 0 [.ref a, .int (nI j), .int (nI w)] (twh h a g S V) (rI (gq g j w) (twh h a g S V)) := by
  refine Cal.of (by decide +kernel) (Nat.le_of_ble_eq_true rfl) (fun c => ?_)
  refine x_aload_n dX5_ofQuern_0 rfl rfl ?_
  refine tg_g T (.inl q2082) dX5_ofQuern_1 ?_
  refine x_bipush (nI 16) dX5_ofQuern_4 (by decide) ?_
  refine x_iconst (nI 3) dX5_ofQuern_6 (by decide) ?_
  refine x_iload_n dX5_ofQuern_7 rfl rfl ?_
  refine x_imul dX5_ofQuern_8 ?_
  refine x_val (pk_mul _ _) ?_
  refine x_iadd dX5_ofQuern_9 ?_
  refine x_val (nI_add _ _) ?_
  refine x_iload_n dX5_ofQuern_10 rfl rfl ?_
  refine x_iadd dX5_ofQuern_11 ?_
  refine x_val (nI_add _ _) ?_
  refine tld1 T rfl (by omega) dX5_ofQuern_12 ?_
  refine x_iret rfl dX5_ofQuern_13 ?_
  exact ⟨rfl, rfl⟩
theorem t_ofBatch {G : GG} {h : AH} {a : Nat} {g : Nat → Int32} {S : Nat → Nat → Int32} {V : Nat → Int32} (T : Tw h a) {j w : Nat} (hb : j < 12 ∧ w < 7) : Cal G kX5_ofBatch 0 0 0 [.ref a, .int (nI j), .int (nI w)] (twh h a g S V) (rI (gb g j w) (twh h a g S V)) := by
  refine Cal.of (by decide +kernel) (Nat.le_of_ble_eq_true rfl) (fun c => ?_)
  refine x_aload_n dX5_ofBatch_0 rfl rfl ?_
  refine tg_g T (.inl q2082) dX5_ofBatch_1 ?_
  refine x_bipush (nI 25) dX5_ofBatch_4 (by decide) ?_
  refine x_bipush (nI 7) dX5_ofBatch_6 (by decide) ?_
  refine x_iload_n dX5_ofBatch_8 rfl rfl ?_
  refine x_imul dX5_ofBatch_9 ?_
  refine x_val (pk_mul _ _) ?_
  refine x_iadd dX5_ofBatch_10 ?_
  refine x_val (nI_add _ _) ?_
  refine x_iload_n dX5_ofBatch_11 rfl rfl ?_
  refine x_iadd dX5_ofBatch_12 ?_
  refine x_val (nI_add _ _) ?_
  refine tld1 T rfl (by omega) dX5_ofBatch_13 ?_
  refine x_iret rfl dX5_ofBatch_14 ?_
  exact ⟨rfl, rfl⟩
theorem t_ofJar {G : GG} {h : AH} {a : Nat} {g : Nat → Int32} {S : Nat → Nat → Int32} {V : Nat → Int32} (T : Tw h a) {j w : Nat} (hb : j < 20 ∧ w < 4) : Cal G kX5_ofJar 0 0 0 [.ref a, .int (nI j), .int (nI w)] (twh h a g S V) (rI (gj g j w) (twh h a g S V)) := by
  refine Cal.of (by decide +kernel) (Nat.le_of_ble_eq_true rfl) (fun c => ?_)
  refine x_aload_n dX5_ofJar_0 rfl rfl ?_
  refine tg_g T (.inl q2082) dX5_ofJar_1 ?_
  refine x_bipush (nI 109) dX5_ofJar_4 (by decide) ?_
  refine x_iconst (nI 4) dX5_ofJar_6 (by decide) ?_
  refine x_iload_n dX5_ofJar_7 rfl rfl ?_
  refine x_imul dX5_ofJar_8 ?_
  refine x_val (pk_mul _ _) ?_
  refine x_iadd dX5_ofJar_9 ?_
  refine x_val (nI_add _ _) ?_
  refine x_iload_n dX5_ofJar_10 rfl rfl ?_
  refine x_iadd dX5_ofJar_11 ?_
  refine x_val (nI_add _ _) ?_
  refine tld1 T rfl (by omega) dX5_ofJar_12 ?_
  refine x_iret rfl dX5_ofJar_13 ?_
  exact ⟨rfl, rfl⟩
theorem t_ofOrder {G : GG} {h : AH} {a : Nat} {g : Nat → Int32} {S : Nat → Nat → Int32} {V : Nat → Int32} (T : Tw h a) {j w : Nat} (hb : j < 8 ∧ w < 4) : Cal G kX5_ofOrder 0 0 0 [.ref a, .int (nI j), .int (nI w)] (twh h a g S V) (rI (go g j w) (twh h a g S V)) := by
  refine Cal.of (by decide +kernel) (Nat.le_of_ble_eq_true rfl) (fun c => ?_)
  refine x_aload_n dX5_ofOrder_0 rfl rfl ?_
  refine tg_g T (.inl q2082) dX5_ofOrder_1 ?_
  refine x_sipush (nI 189) dX5_ofOrder_4 (by decide) ?_
  refine x_iconst (nI 4) dX5_ofOrder_7 (by decide) ?_
  refine x_iload_n dX5_ofOrder_8 rfl rfl ?_
  refine x_imul dX5_ofOrder_9 ?_
  refine x_val (pk_mul _ _) ?_
  refine x_iadd dX5_ofOrder_10 ?_
  refine x_val (nI_add _ _) ?_
  refine x_iload_n dX5_ofOrder_11 rfl rfl ?_
  refine x_iadd dX5_ofOrder_12 ?_
  refine x_val (nI_add _ _) ?_
  refine tld1 T rfl (by omega) dX5_ofOrder_13 ?_
  refine x_iret rfl dX5_ofOrder_14 ?_
  exact ⟨rfl, rfl⟩
theorem t_laysBatch {G : GG} {h : AH} {a : Nat} {g : Nat → Int32} {S : Nat → Nat → Int32} {V : Nat → Int32} (T : Tw h a) {j w : Nat} {v : Int32} (hb : j < 12 ∧ w < 7) : Cal G kX5_laysBatch 0 0 0 [.ref a, .int (nI j), .int (nI w), .int v] (twh h a g S V) (rV (twh h a (upd g (25 + 7 * j + w) v) S V)) := by
  refine Cal.of (by decide +kernel) (Nat.le_of_ble_eq_true rfl) (fun c => ?_)
  refine x_aload_n dX5_laysBatch_0 rfl rfl ?_
  refine tg_g T (.inl q2082) dX5_laysBatch_1 ?_
  refine x_bipush (nI 25) dX5_laysBatch_4 (by decide) ?_
  refine x_bipush (nI 7) dX5_laysBatch_6 (by decide) ?_
  refine x_iload_n dX5_laysBatch_8 rfl rfl ?_
  refine x_imul dX5_laysBatch_9 ?_
  refine x_val (pk_mul _ _) ?_
  refine x_iadd dX5_laysBatch_10 ?_
  refine x_val (nI_add _ _) ?_
  refine x_iload_n dX5_laysBatch_11 rfl rfl ?_
  refine x_iadd dX5_laysBatch_12 ?_
  refine x_val (nI_add _ _) ?_
  refine x_iload_n dX5_laysBatch_13 rfl rfl ?_
  refine tst1 T rfl (by omega) dX5_laysBatch_14 ?_
  refine x_vret rfl dX5_laysBatch_15 ?_
  exact ⟨rfl, rfl⟩
theorem t_laysJar {G : GG} {h : AH} {a : Nat} {g : Nat → Int32} {S : Nat → Nat → Int32} {V : Nat → Int32} (T : Tw h a) {j w : Nat} {v : Int32} (hb : j < 20 ∧ w < 4) : Cal G kX5_laysJar 0 0 0 [.ref a, .int (nI j), .int (nI w), .int v] (twh h a g S V) (rV (twh h a (upd g (109 + 4 * j + w) v) S V)) := by
  refine Cal.of (by decide +kernel) (Nat.le_of_ble_eq_true rfl) (fun c => ?_)
  refine x_aload_n dX5_laysJar_0 rfl rfl ?_
  refine tg_g T (.inl q2082) dX5_laysJar_1 ?_
  refine x_bipush (nI 109) dX5_laysJar_4 (by decide) ?_
  refine x_iconst (nI 4) dX5_laysJar_6 (by decide) ?_
  refine x_iload_n dX5_laysJar_7 rfl rfl ?_
  refine x_imul dX5_laysJar_8 ?_
  refine x_val (pk_mul _ _) ?_
  refine x_iadd dX5_laysJar_9 ?_
  refine x_val (nI_add _ _) ?_
  refine x_iload_n dX5_laysJar_10 rfl rfl ?_
  refine x_iadd dX5_laysJar_11 ?_
  refine x_val (nI_add _ _) ?_
  refine x_iload_n dX5_laysJar_12 rfl rfl ?_
  refine tst1 T rfl (by omega) dX5_laysJar_13 ?_
  refine x_vret rfl dX5_laysJar_14 ?_
  exact ⟨rfl, rfl⟩
theorem t_earns {G : GG} {h : AH} {a : Nat} {g : Nat → Int32} {S : Nat → Nat → Int32} {V : Nat → Int32} (T : Tw h a) {x : Int32} : Cal G kX5_earns 1 0 0 [.ref a, .int x] (twh h a g S V) (rV (twh h a (earnsG g x) S V)) := by
  refine Cal.of (by decide +kernel) (Nat.le_of_ble_eq_true rfl) (fun c => ?_)
  refine x_aload_n dX5_earns_0 rfl rfl ?_
  refine tg_g T (.inl q2082) dX5_earns_1 ?_
  refine x_bipush (nI 10) dX5_earns_4 (by decide) ?_
  refine x_dup2 dX5_earns_6 rfl rfl ?_
  refine tld1 T rfl (by omega) dX5_earns_7 ?_
  refine x_iload_n dX5_earns_8 rfl rfl ?_
  refine x_iadd dX5_earns_9 ?_
  refine tst1 T rfl (by omega) dX5_earns_10 ?_
  refine x_aload_n dX5_earns_11 rfl rfl ?_
  refine tg_g T (.inl q2082) dX5_earns_12 ?_
  refine x_bipush (nI 6) dX5_earns_15 (by decide) ?_
  refine x_sipush (nI 9999) dX5_earns_17 (by decide) ?_
  refine x_aload_n dX5_earns_20 rfl rfl ?_
  refine tg_g T (.inl q2082) dX5_earns_21 ?_
  refine x_bipush (nI 6) dX5_earns_24 (by decide) ?_
  refine tld1 T rfl (by omega) dX5_earns_26 ?_
  refine x_iload_n dX5_earns_27 rfl rfl ?_
  refine x_iadd dX5_earns_28 ?_
  refine x_cSI t_less okX5_less q2279 q2280 dX5_earns_29 rfl rfl (by decide) (Nat.zero_le _) (Nat.zero_le _) (Nat.le_of_ble_eq_true rfl) (fun _ => ?_)
  refine tst1 T rfl (by omega) dX5_earns_32 ?_
  refine x_vret rfl dX5_earns_33 ?_
  exact ⟨rfl, rfl⟩
