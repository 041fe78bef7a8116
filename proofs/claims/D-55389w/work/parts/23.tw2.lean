/-! THE REFERENCE, second part: tears, ripe jars, counts, a day; printed by tools/tw2.py -/
set_option maxRecDepth 100000
theorem t_heatBy {G : GG} {h : AH} {a : Nat} {g : Nat → Int32} {S : Nat → Nat → Int32} {V : Nat → Int32} (T : Tw h a) {k : Nat} {x : Int32} (hb : k < 3) : Cal G kX5_heatBy 1 0 0 [.ref a, .int (nI k), .int x] (twh h a g S V) (rI (heatBy g k x) (twh h a g S V)) := by
  refine Cal.of (by decide +kernel) (Nat.le_of_ble_eq_true rfl) (fun c => ?_)
  refine x_aload_n dX5_heatBy_0 rfl rfl ?_
  refine x_iload_n dX5_heatBy_1 rfl rfl ?_
  refine x_iconst (nI 1) dX5_heatBy_2 (by decide) ?_
  refine x_cVI (t_ofQuern T (by omega)) okX5_ofQuern clX5 q2181 q2183 qs26 dX5_heatBy_3 (Or.inl T.1) rfl rfl (by decide) (Nat.zero_le _) (Nat.zero_le _) (Nat.le_of_ble_eq_true rfl) (fun _ => ?_)
  refine x_iload_n dX5_heatBy_6 rfl rfl ?_
  refine x_bipush (nI 9) dX5_heatBy_7 (by decide) ?_
  refine x_iadd dX5_heatBy_9 ?_
  refine x_bipush (nI 10) dX5_heatBy_10 (by decide) ?_
  refine x_idiv dX5_heatBy_12 (by decide) ?_
  refine x_iadd dX5_heatBy_13 ?_
  refine x_iret rfl dX5_heatBy_14 ?_
  exact ⟨rfl, rfl⟩
theorem t_biteBy {G : GG} {h : AH} {a : Nat} {g : Nat → Int32} {S : Nat → Nat → Int32} {V : Nat → Int32} (T : Tw h a) {k : Nat} {y b x : Int32} (hb : k < 3) (hz : ¬ y + b + x = 0) : Cal G kX5_biteBy 2 0 0 [.ref a, .int (nI k), .int y, .int b, .int x] (twh h a g S V) (rI (biteBy g k y b x) (twh h a g S V)) := by
  refine Cal.of (by decide +kernel) (Nat.le_of_ble_eq_true rfl) (fun c => ?_)
  refine x_iload_n dX5_biteBy_0 rfl rfl ?_
  refine x_iload_n dX5_biteBy_1 rfl rfl ?_
  refine x_iadd dX5_biteBy_2 ?_
  refine x_iload dX5_biteBy_3 rfl ?_
  refine x_iadd dX5_biteBy_5 ?_
  refine x_istore [(5, .int ((y + b) + x)), (0, .ref a), (1, .int (nI k)), (2, .int y), (3, .int b), (4, .int x)] dX5_biteBy_6 (by decide) rfl ?_
  refine x_iconst (nI 1) dX5_biteBy_8 (by decide) ?_
  refine x_bipush (nI 10) dX5_biteBy_9 (by decide) ?_
  refine x_iload_n dX5_biteBy_11 rfl rfl ?_
  refine x_iconst (nI 2) dX5_biteBy_12 (by decide) ?_
  refine x_iload_n dX5_biteBy_13 rfl rfl ?_
  refine x_imul dX5_biteBy_14 ?_
  refine x_iadd dX5_biteBy_15 ?_
  refine x_iconst (nI 3) dX5_biteBy_16 (by decide) ?_
  refine x_iload dX5_biteBy_17 rfl ?_
  refine x_imul dX5_biteBy_19 ?_
  refine x_iadd dX5_biteBy_20 ?_
  refine x_imul dX5_biteBy_21 ?_
  refine x_iload dX5_biteBy_22 rfl ?_
  refine x_idiv dX5_biteBy_24 hz ?_
  refine x_iconst (nI 2) dX5_biteBy_25 (by decide) ?_
  refine x_iconst (nI 0) dX5_biteBy_26 (by decide) ?_
  refine x_aload_n dX5_biteBy_27 rfl rfl ?_
  refine x_iload_n dX5_biteBy_28 rfl rfl ?_
  refine x_iload dX5_biteBy_29 rfl ?_
  refine x_cVI (t_heatBy T (by omega)) okX5_heatBy clX5 q2196 q2198 qs27 dX5_biteBy_31 (Or.inl T.1) rfl rfl (by decide) (Nat.zero_le _) (Nat.zero_le _) (Nat.le_of_ble_eq_true rfl) (fun _ => ?_)
  refine x_iconst (nI 5) dX5_biteBy_34 (by decide) ?_
  refine x_isub dX5_biteBy_35 ?_
  refine x_cSI t_more okX5_more q2208 q2209 dX5_biteBy_36 rfl rfl (by decide) (Nat.zero_le _) (Nat.zero_le _) (Nat.le_of_ble_eq_true rfl) (fun _ => ?_)
  refine x_imul dX5_biteBy_39 ?_
  refine x_isub dX5_biteBy_40 ?_
  refine x_cSI t_more okX5_more q2208 q2209 dX5_biteBy_41 rfl rfl (by decide) (Nat.zero_le _) (Nat.zero_le _) (Nat.le_of_ble_eq_true rfl) (fun _ => ?_)
  refine x_iret rfl dX5_biteBy_44 ?_
  exact ⟨rfl, rfl⟩
theorem t_isMix {G : GG} {h : AH} {y b k : Int32} : Cal G kX5_isMix 1 0 0 [.int y, .int b, .int k] (h) (rI (bB (isMix y b k)) h) := by
  refine Cal.of (by decide +kernel) (Nat.le_of_ble_eq_true rfl) (fun c => ?_)
  refine x_iload_n dX5_isMix_0 rfl rfl ?_
  refine x_if_lt 49 dX5_isMix_1 (by decide) (fun e1 => ?_) (fun e1 => ?_)
  · skip
    refine x_iconst (nI 0) dX5_isMix_49 (by decide) ?_
    refine x_zret rfl (by decide +kernel) dX5_isMix_50 ?_
    refine rI_of ?_
    simp_all [bB, isMix, nI, nle_i]
  · skip
    refine x_iload_n dX5_isMix_4 rfl rfl ?_
    refine x_if_lt 49 dX5_isMix_5 (by decide) (fun e2 => ?_) (fun e2 => ?_)
    · skip
      refine x_iconst (nI 0) dX5_isMix_49 (by decide) ?_
      refine x_zret rfl (by decide +kernel) dX5_isMix_50 ?_
      refine rI_of ?_
      simp_all [bB, isMix, nI, nle_i]
    · skip
      refine x_iload_n dX5_isMix_8 rfl rfl ?_
      refine x_if_lt 49 dX5_isMix_9 (by decide) (fun e3 => ?_) (fun e3 => ?_)
      · skip
        refine x_iconst (nI 0) dX5_isMix_49 (by decide) ?_
        refine x_zret rfl (by decide +kernel) dX5_isMix_50 ?_
        refine rI_of ?_
        simp_all [bB, isMix, nI, nle_i]
      · skip
        refine x_iload_n dX5_isMix_12 rfl rfl ?_
        refine x_bipush (nI 60) dX5_isMix_13 (by decide) ?_
        refine x_icmp_gt 49 dX5_isMix_15 (by decide) (fun e4 => ?_) (fun e4 => ?_)
        · skip
          refine x_iconst (nI 0) dX5_isMix_49 (by decide) ?_
          refine x_zret rfl (by decide +kernel) dX5_isMix_50 ?_
          refine rI_of ?_
          simp_all [bB, isMix, nI, nle_i]
        · skip
          refine x_iload_n dX5_isMix_18 rfl rfl ?_
          refine x_bipush (nI 60) dX5_isMix_19 (by decide) ?_
          refine x_icmp_gt 49 dX5_isMix_21 (by decide) (fun e5 => ?_) (fun e5 => ?_)
          · skip
            refine x_iconst (nI 0) dX5_isMix_49 (by decide) ?_
            refine x_zret rfl (by decide +kernel) dX5_isMix_50 ?_
            refine rI_of ?_
            simp_all [bB, isMix, nI, nle_i]
          · skip
            refine x_iload_n dX5_isMix_24 rfl rfl ?_
            refine x_bipush (nI 60) dX5_isMix_25 (by decide) ?_
            refine x_icmp_gt 49 dX5_isMix_27 (by decide) (fun e6 => ?_) (fun e6 => ?_)
            · skip
              refine x_iconst (nI 0) dX5_isMix_49 (by decide) ?_
              refine x_zret rfl (by decide +kernel) dX5_isMix_50 ?_
              refine rI_of ?_
              simp_all [bB, isMix, nI, nle_i]
            · skip
              refine x_iload_n dX5_isMix_30 rfl rfl ?_
              refine x_iload_n dX5_isMix_31 rfl rfl ?_
              refine x_iadd dX5_isMix_32 ?_
              refine x_iload_n dX5_isMix_33 rfl rfl ?_
              refine x_iadd dX5_isMix_34 ?_
              refine x_bipush (nI 10) dX5_isMix_35 (by decide) ?_
              refine x_bipush (nI 60) dX5_isMix_37 (by decide) ?_
              refine x_cSI t_in okX5_in q2156 q2157 dX5_isMix_39 rfl rfl (by decide) (Nat.zero_le _) (Nat.zero_le _) (Nat.le_of_ble_eq_true rfl) (fun _ => ?_)
              refine x_if_eqB 49 dX5_isMix_42 (by decide) (fun e7 => ?_) (fun e7 => ?_)
              · skip
                refine x_iconst (nI 0) dX5_isMix_49 (by decide) ?_
                refine x_zret rfl (by decide +kernel) dX5_isMix_50 ?_
                refine rI_of ?_
                simp_all [bB, isMix, nI, nle_i]
              · skip
                refine x_iconst (nI 1) dX5_isMix_45 (by decide) ?_
                refine x_goto 50 dX5_isMix_46 (by decide) ?_
                refine x_zret rfl (by decide +kernel) dX5_isMix_50 ?_
                refine rI_of ?_
                simp_all [bB, isMix, nI, nle_i]
theorem t_ripeIn {G : GG} {h : AH} {a : Nat} {g : Nat → Int32} {S : Nat → Nat → Int32} {V : Nat → Int32} (T : Tw h a) {j : Nat} (hb : j < 12) : Cal G kX5_ripeIn 1 0 0 [.ref a, .int (nI j)] (twh h a g S V) (rI (ripeIn g j) (twh h a g S V)) := by
  refine Cal.of (by decide +kernel) (Nat.le_of_ble_eq_true rfl) (fun c => ?_)
  refine x_iconst (nI 2) dX5_ripeIn_0 (by decide) ?_
  refine x_aload_n dX5_ripeIn_1 rfl rfl ?_
  refine x_iload_n dX5_ripeIn_2 rfl rfl ?_
  refine x_iconst (nI 2) dX5_ripeIn_3 (by decide) ?_
  refine x_cVI (t_ofBatch T (by omega)) okX5_ofBatch clX5 q2223 q2225 qs31 dX5_ripeIn_4 (Or.inl T.1) rfl rfl (by decide) (Nat.zero_le _) (Nat.zero_le _) (Nat.le_of_ble_eq_true rfl) (fun _ => ?_)
  refine x_iadd dX5_ripeIn_7 ?_
  refine x_aload_n dX5_ripeIn_8 rfl rfl ?_
  refine x_iload_n dX5_ripeIn_9 rfl rfl ?_
  refine x_iconst (nI 4) dX5_ripeIn_10 (by decide) ?_
  refine x_cVI (t_ofBatch T (by omega)) okX5_ofBatch clX5 q2223 q2225 qs31 dX5_ripeIn_11 (Or.inl T.1) rfl rfl (by decide) (Nat.zero_le _) (Nat.zero_le _) (Nat.le_of_ble_eq_true rfl) (fun _ => ?_)
  refine x_iconst (nI 4) dX5_ripeIn_14 (by decide) ?_
  refine x_idiv dX5_ripeIn_15 (by decide) ?_
  refine x_iadd dX5_ripeIn_16 ?_
  refine x_iret rfl dX5_ripeIn_17 ?_
  exact ⟨rfl, rfl⟩
theorem t_tearAt {G : GG} {h : AH} {a : Nat} {g : Nat → Int32} {S : Nat → Nat → Int32} {V : Nat → Int32} (T : Tw h a) {j : Nat} {x : Int32} (O : GOk g) (hb : j < 12) : Cal G kX5_tearAt 2 0 0 [.ref a, .int (nI j), .int x] (twh h a g S V) (rI (tearAt g j x) (twh h a g S V)) := by
  refine Cal.of (by decide +kernel) (Nat.le_of_ble_eq_true rfl) (fun c => ?_)
  refine x_aload_n dX5_tearAt_0 rfl rfl ?_
  refine x_iload_n dX5_tearAt_1 rfl rfl ?_
  refine x_cVI (t_ripeIn T (by first | omega | exact (O.of (by omega)).2.2)) okX5_ripeIn clX5 q2227 q2229 qs32 dX5_tearAt_2 (Or.inl T.1) rfl rfl (by decide) (Nat.zero_le _) (Nat.zero_le _) (Nat.le_of_ble_eq_true rfl) (fun _ => ?_)
  refine x_istore_n [(3, .int (ripeIn g j)), (0, .ref a), (1, .int (nI j)), (2, .int x)] dX5_tearAt_5 rfl (by decide) rfl ?_
  refine x_iconst (nI 0) dX5_tearAt_6 (by decide) ?_
  refine x_iload_n dX5_tearAt_7 rfl rfl ?_
  refine x_iload_n dX5_tearAt_8 rfl rfl ?_
  refine x_icmp_gt 25 dX5_tearAt_9 (by decide) (fun e1 => ?_) (fun e1 => ?_)
  · skip
    refine x_aload_n dX5_tearAt_25 rfl rfl ?_
    refine x_iload_n dX5_tearAt_26 rfl rfl ?_
    refine x_iconst (nI 3) dX5_tearAt_27 (by decide) ?_
    refine x_cVI (t_ofBatch T (by omega)) okX5_ofBatch clX5 q2223 q2225 qs31 dX5_tearAt_28 (Or.inl T.1) rfl rfl (by decide) (Nat.zero_le _) (Nat.zero_le _) (Nat.le_of_ble_eq_true rfl) (fun _ => ?_)
    refine x_iload_n dX5_tearAt_31 rfl rfl ?_
    refine x_iload_n dX5_tearAt_32 rfl rfl ?_
    refine x_isub dX5_tearAt_33 ?_
    refine x_iconst (nI 3) dX5_tearAt_34 (by decide) ?_
    refine x_idiv dX5_tearAt_35 (by decide) ?_
    refine x_isub dX5_tearAt_36 ?_
    refine x_cSI t_more okX5_more q2208 q2209 dX5_tearAt_37 rfl rfl (by decide) (Nat.zero_le _) (Nat.zero_le _) (Nat.le_of_ble_eq_true rfl) (fun _ => ?_)
    refine x_iret rfl dX5_tearAt_40 ?_
    exact rI_of (by unfold tearAt; first | (rw [if_neg (Int32.not_le.mpr (by assumption))]; rfl) | (rw [if_pos (Int32.not_lt.mp (by assumption))]; rfl))
  · skip
    refine x_aload_n dX5_tearAt_12 rfl rfl ?_
    refine x_iload_n dX5_tearAt_13 rfl rfl ?_
    refine x_iconst (nI 3) dX5_tearAt_14 (by decide) ?_
    refine x_cVI (t_ofBatch T (by omega)) okX5_ofBatch clX5 q2223 q2225 qs31 dX5_tearAt_15 (Or.inl T.1) rfl rfl (by decide) (Nat.zero_le _) (Nat.zero_le _) (Nat.le_of_ble_eq_true rfl) (fun _ => ?_)
    refine x_iload_n dX5_tearAt_18 rfl rfl ?_
    refine x_imul dX5_tearAt_19 ?_
    refine x_iload_n dX5_tearAt_20 rfl rfl ?_
    refine x_idiv dX5_tearAt_21 (O.rnz hb) ?_
    refine x_goto 37 dX5_tearAt_22 (by decide) ?_
    refine x_cSI t_more okX5_more q2208 q2209 dX5_tearAt_37 rfl rfl (by decide) (Nat.zero_le _) (Nat.zero_le _) (Nat.le_of_ble_eq_true rfl) (fun _ => ?_)
    refine x_iret rfl dX5_tearAt_40 ?_
    exact rI_of (by unfold tearAt; first | (rw [if_neg (Int32.not_le.mpr (by assumption))]; rfl) | (rw [if_pos (Int32.not_lt.mp (by assumption))]; rfl))
theorem t_tearOf {G : GG} {h : AH} {a : Nat} {g : Nat → Int32} {S : Nat → Nat → Int32} {V : Nat → Int32} (T : Tw h a) {j : Nat} (O : GOk g) (hb : j < nJr g) (h20 : j < 20) : Cal G kX5_tearOf 3 0 0 [.ref a, .int (nI j)] (twh h a g S V) (rI (tearOf g j) (twh h a g S V)) := by
  refine Cal.of (by decide +kernel) (Nat.le_of_ble_eq_true rfl) (fun c => ?_)
  refine x_aload_n dX5_tearOf_0 rfl rfl ?_
  refine x_iload_n dX5_tearOf_1 rfl rfl ?_
  refine x_iconst (nI 0) dX5_tearOf_2 (by decide) ?_
  refine x_cVI (t_ofJar T (by omega)) okX5_ofJar clX5 q2251 q2253 qs35 dX5_tearOf_3 (Or.inl T.1) rfl rfl (by decide) (Nat.zero_le _) (Nat.zero_le _) (Nat.le_of_ble_eq_true rfl) (fun _ => ?_)
  refine x_if_ne 28 dX5_tearOf_6 (by decide) (fun e1 => ?_) (fun e1 => ?_)
  · skip
    refine x_aload_n dX5_tearOf_28 rfl rfl ?_
    refine x_iload_n dX5_tearOf_29 rfl rfl ?_
    refine x_iconst (nI 3) dX5_tearOf_30 (by decide) ?_
    refine x_cVI (t_ofJar T (by omega)) okX5_ofJar clX5 q2251 q2253 qs35 dX5_tearOf_31 (Or.inl T.1) rfl rfl (by decide) (Nat.zero_le _) (Nat.zero_le _) (Nat.le_of_ble_eq_true rfl) (fun _ => ?_)
    refine x_iret rfl dX5_tearOf_34 ?_
    exact rI_of (by unfold tearOf; first | (rw [if_pos (by assumption)]) | (rw [if_neg (by assumption)]))
  · skip
    refine x_aload_n dX5_tearOf_9 rfl rfl ?_
    refine x_aload_n dX5_tearOf_10 rfl rfl ?_
    refine x_iload_n dX5_tearOf_11 rfl rfl ?_
    refine x_iconst (nI 1) dX5_tearOf_12 (by decide) ?_
    refine x_cVI (t_ofJar T (by omega)) okX5_ofJar clX5 q2251 q2253 qs35 dX5_tearOf_13 (Or.inl T.1) rfl rfl (by decide) (Nat.zero_le _) (Nat.zero_le _) (Nat.le_of_ble_eq_true rfl) (fun _ => ?_)
    refine x_val (O.of (by omega)).1 ?_
    refine x_aload_n dX5_tearOf_16 rfl rfl ?_
    refine x_iload_n dX5_tearOf_17 rfl rfl ?_
    refine x_iconst (nI 2) dX5_tearOf_18 (by decide) ?_
    refine x_cVI (t_ofJar T (by omega)) okX5_ofJar clX5 q2251 q2253 qs35 dX5_tearOf_19 (Or.inl T.1) rfl rfl (by decide) (Nat.zero_le _) (Nat.zero_le _) (Nat.le_of_ble_eq_true rfl) (fun _ => ?_)
    refine x_cVI (t_tearAt T O (by first | omega | exact (O.of (by omega)).2.2)) okX5_tearAt clX5 q2263 q2265 qs38 dX5_tearOf_22 (Or.inl T.1) rfl rfl (by decide) (Nat.zero_le _) (Nat.zero_le _) (Nat.le_of_ble_eq_true rfl) (fun _ => ?_)
    refine x_goto 34 dX5_tearOf_25 (by decide) ?_
    refine x_iret rfl dX5_tearOf_34 ?_
    exact rI_of (by unfold tearOf; first | (rw [if_pos (by assumption)]) | (rw [if_neg (by assumption)]))
theorem t_missing {G : GG} {h : AH} {a : Nat} {g : Nat → Int32} {S : Nat → Nat → Int32} {V : Nat → Int32} (T : Tw h a) {j : Nat} (O : GOk g) (hb : j < nJr g) (h20 : j < 20) : Cal G kX5_missing 2 0 0 [.ref a, .int (nI j)] (twh h a g S V) (rI (missing g j) (twh h a g S V)) := by
  refine Cal.of (by decide +kernel) (Nat.le_of_ble_eq_true rfl) (fun c => ?_)
  refine x_iconst (nI 0) dX5_missing_0 (by decide) ?_
  refine x_aload_n dX5_missing_1 rfl rfl ?_
  refine x_aload_n dX5_missing_2 rfl rfl ?_
  refine x_iload_n dX5_missing_3 rfl rfl ?_
  refine x_iconst (nI 1) dX5_missing_4 (by decide) ?_
  refine x_cVI (t_ofJar T (by omega)) okX5_ofJar clX5 q2251 q2253 qs35 dX5_missing_5 (Or.inl T.1) rfl rfl (by decide) (Nat.zero_le _) (Nat.zero_le _) (Nat.le_of_ble_eq_true rfl) (fun _ => ?_)
  refine x_val (O.of (by omega)).1 ?_
  refine x_cVI (t_ripeIn T (by first | omega | exact (O.of (by omega)).2.2)) okX5_ripeIn clX5 q2227 q2229 qs32 dX5_missing_8 (Or.inl T.1) rfl rfl (by decide) (Nat.zero_le _) (Nat.zero_le _) (Nat.le_of_ble_eq_true rfl) (fun _ => ?_)
  refine x_aload_n dX5_missing_11 rfl rfl ?_
  refine x_iload_n dX5_missing_12 rfl rfl ?_
  refine x_iconst (nI 2) dX5_missing_13 (by decide) ?_
  refine x_cVI (t_ofJar T (by omega)) okX5_ofJar clX5 q2251 q2253 qs35 dX5_missing_14 (Or.inl T.1) rfl rfl (by decide) (Nat.zero_le _) (Nat.zero_le _) (Nat.le_of_ble_eq_true rfl) (fun _ => ?_)
  refine x_isub dX5_missing_17 ?_
  refine x_cSI t_more okX5_more q2208 q2209 dX5_missing_18 rfl rfl (by decide) (Nat.zero_le _) (Nat.zero_le _) (Nat.le_of_ble_eq_true rfl) (fun _ => ?_)
  refine x_iret rfl dX5_missing_21 ?_
  exact ⟨rfl, rfl⟩
theorem t_isRipe {G : GG} {h : AH} {a : Nat} {g : Nat → Int32} {S : Nat → Nat → Int32} {V : Nat → Int32} (T : Tw h a) {j : Nat} (O : GOk g) (hb : j < nJr g) (h20 : j < 20) : Cal G kX5_isRipe 3 0 0 [.ref a, .int (nI j)] (twh h a g S V) (rI (bB (isRipe g j)) (twh h a g S V)) := by
  refine Cal.of (by decide +kernel) (Nat.le_of_ble_eq_true rfl) (fun c => ?_)
  refine x_aload_n dX5_isRipe_0 rfl rfl ?_
  refine x_iload_n dX5_isRipe_1 rfl rfl ?_
  refine x_iconst (nI 0) dX5_isRipe_2 (by decide) ?_
  refine x_cVI (t_ofJar T (by omega)) okX5_ofJar clX5 q2251 q2253 qs35 dX5_isRipe_3 (Or.inl T.1) rfl rfl (by decide) (Nat.zero_le _) (Nat.zero_le _) (Nat.le_of_ble_eq_true rfl) (fun _ => ?_)
  refine x_if_ne 21 dX5_isRipe_6 (by decide) (fun e1 => ?_) (fun e1 => ?_)
  · skip
    refine x_iconst (nI 0) dX5_isRipe_21 (by decide) ?_
    refine x_zret rfl (by decide +kernel) dX5_isRipe_22 ?_
    exact rI_of (by simp_all [bB, nI1, nI0, isRipe])
  · skip
    refine x_aload_n dX5_isRipe_9 rfl rfl ?_
    refine x_iload_n dX5_isRipe_10 rfl rfl ?_
    refine x_cVI (t_missing T O (by omega) (by omega)) okX5_missing clX5 q2271 q2273 qs39 dX5_isRipe_11 (Or.inl T.1) rfl rfl (by decide) (Nat.zero_le _) (Nat.zero_le _) (Nat.le_of_ble_eq_true rfl) (fun _ => ?_)
    refine x_if_ne 21 dX5_isRipe_14 (by decide) (fun e2 => ?_) (fun e2 => ?_)
    · skip
      refine x_iconst (nI 0) dX5_isRipe_21 (by decide) ?_
      refine x_zret rfl (by decide +kernel) dX5_isRipe_22 ?_
      exact rI_of (by simp_all [bB, nI1, nI0, isRipe])
    · skip
      refine x_iconst (nI 1) dX5_isRipe_17 (by decide) ?_
      refine x_goto 22 dX5_isRipe_18 (by decide) ?_
      refine x_zret rfl (by decide +kernel) dX5_isRipe_22 ?_
      exact rI_of (by simp_all [bB, nI1, nI0, isRipe])
theorem t_becomes {G : GG} {h : AH} {a : Nat} {g : Nat → Int32} {S : Nat → Nat → Int32} {V : Nat → Int32} (T : Tw h a) {j : Nat} {x : Int32} (O : GOk g) (hb : j < nJr g) (h20 : j < 20) : Cal G kX5_becomes 4 0 0 [.ref a, .int (nI j), .int x] (twh h a g S V) (rV (twh h a (becomesG g j x) S V)) := by
  refine Cal.of (by decide +kernel) (Nat.le_of_ble_eq_true rfl) (fun c => ?_)
  refine x_aload_n dX5_becomes_0 rfl rfl ?_
  refine x_iload_n dX5_becomes_1 rfl rfl ?_
  refine x_iconst (nI 3) dX5_becomes_2 (by decide) ?_
  refine x_aload_n dX5_becomes_3 rfl rfl ?_
  refine x_iload_n dX5_becomes_4 rfl rfl ?_
  refine x_cVI (t_tearOf T O (by omega) (by omega)) okX5_tearOf clX5 q2259 q2261 qs37 dX5_becomes_5 (Or.inl T.1) rfl rfl (by decide) (Nat.zero_le _) (Nat.zero_le _) (Nat.le_of_ble_eq_true rfl) (fun _ => ?_)
  refine x_cVV (t_laysJar T (by omega)) okX5_laysJar clX5 q2239 q2241 qs33 dX5_becomes_8 (Or.inl T.1) rfl rfl (by decide) (Nat.zero_le _) (Nat.zero_le _) (Nat.le_of_ble_eq_true rfl) (fun _ => ?_)
  refine x_aload_n dX5_becomes_11 rfl rfl ?_
  refine x_iload_n dX5_becomes_12 rfl rfl ?_
  refine x_iconst (nI 0) dX5_becomes_13 (by decide) ?_
  refine x_iload_n dX5_becomes_14 rfl rfl ?_
  refine x_cVV (t_laysJar T (by omega)) okX5_laysJar clX5 q2239 q2241 qs33 dX5_becomes_15 (Or.inl T.1) rfl rfl (by decide) (Nat.zero_le _) (Nat.zero_le _) (Nat.le_of_ble_eq_true rfl) (fun _ => ?_)
  refine x_vret rfl dX5_becomes_18 ?_
  exact ⟨rfl, rfl⟩
theorem t_jars {G : GG} {h : AH} {a : Nat} {g : Nat → Int32} {S : Nat → Nat → Int32} {V : Nat → Int32} (T : Tw h a) (O : GOk g) {x : Int32} : Cal G kX5_jars 1 0 0 [.ref a, .int x] (twh h a g S V) (rI (nI (jarsN g x)) (twh h a g S V)) := by
  refine Cal.of (by decide +kernel) (Nat.le_of_ble_eq_true rfl) (fun c => ?_)
  have hJ := O.j
  have hO := O.o
  refine x_iconst (nI 0) dX5_jars_0 (by decide) ?_
  refine x_istore_n [(2, .int (nI 0)), (0, .ref a), (1, .int x)] dX5_jars_1 rfl (by decide) rfl ?_
  refine x_iconst (nI 0) dX5_jars_2 (by decide) ?_
  refine x_istore_n [(3, .int (nI 0)), (2, .int (nI 0)), (0, .ref a), (1, .int x)] dX5_jars_3 rfl (by decide) rfl ?_
  refine x_sub [2, 3, 1, 0] (lv' := [(0, .ref a), (1, .int x), (2, .int (nI 0)), (3, .int (nI 0))]) rfl ?_
  refine x_bud (bc' := 0) (bs' := 0) (by first | exact Nat.zero_le _ | omega) (by first | exact Nat.zero_le _ | omega) ?_
  refine lpN (P := fun i => X G c kX5_jars 1 _ _ _ 0 0 (twh h a g S V) 4 [(0, .ref a), (1, .int x), (2, .int (nI (cnt (fun j => decide (gj g j 0 = x)) i))), (3, .int (nI i))] []) (nJr g) (fun i hi ih => ?_) 0 (Nat.zero_le _)
  refine x_iload_n dX5_jars_4 rfl rfl ?_
  refine x_aload_n dX5_jars_5 rfl rfl ?_
  refine tg_g T (.inl q2082) dX5_jars_6 ?_
  refine x_bipush (nI 8) dX5_jars_9 (by decide) ?_
  refine tld1 T rfl (by omega) dX5_jars_11 ?_
  refine x_val hJ.1 ?_
  refine x_icmp_ge 39 dX5_jars_12 (by decide) (fun e1 => ?_) (fun e1 => ?_)
  · skip
    have ne1 := e1
    rw [nI_leI (by omega) (by omega)] at ne1
    refine x_iload_n dX5_jars_39 rfl rfl ?_
    refine x_iret rfl dX5_jars_40 ?_
    exact rI_of (by rw [show i = nJr g by omega]; rfl)
  · skip
    have ne1 := e1
    rw [nI_leI (by omega) (by omega)] at ne1
    refine x_iload_n dX5_jars_15 rfl rfl ?_
    refine x_aload_n dX5_jars_16 rfl rfl ?_
    refine x_iload_n dX5_jars_17 rfl rfl ?_
    refine x_iconst (nI 0) dX5_jars_18 (by decide) ?_
    refine x_cVI (t_ofJar T (by omega)) okX5_ofJar clX5 q2251 q2253 qs35 dX5_jars_19 (Or.inl T.1) rfl rfl (by decide) (Nat.zero_le _) (Nat.zero_le _) (Nat.le_of_ble_eq_true rfl) (fun _ => ?_)
    refine x_iload_n dX5_jars_22 rfl rfl ?_
    refine x_icmp_ne 30 dX5_jars_23 (by decide) (fun e2 => ?_) (fun e2 => ?_)
    · skip
      refine x_iconst (nI 0) dX5_jars_30 (by decide) ?_
      refine x_iadd dX5_jars_31 ?_
      refine x_val (nI_add _ _) ?_
      refine x_istore_n [(2, .int (nI ((cnt (fun j => decide (gj g j 0 = x)) i) + 0))), (0, .ref a), (1, .int x), (3, .int (nI i))] dX5_jars_32 rfl (by decide) rfl ?_
      refine x_iinc (j := 3) (nI (i + 1)) [(3, .int (nI (i + 1))), (2, .int (nI ((cnt (fun j => decide (gj g j 0 = x)) i) + 0))), (0, .ref a), (1, .int x)] dX5_jars_33 rfl (by first | exact nI_add _ _ | decide) (by decide) rfl ?_
      refine x_goto 4 dX5_jars_36 (by decide) ?_
      refine x_sub [2, 3, 1, 0] (lv' := [(0, .ref a), (1, .int x), (2, .int (nI ((cnt (fun j => decide (gj g j 0 = x)) i) + 0))), (3, .int (nI (i + 1)))]) rfl ?_
      have ec : cnt (fun j => decide (gj g j 0 = x)) (i + 1) = (cnt (fun j => decide (gj g j 0 = x)) i) + 0 := by simp_all [cnt]
      rw [← ec]
      exact ih (by omega)
    · skip
      refine x_iconst (nI 1) dX5_jars_26 (by decide) ?_
      refine x_goto 31 dX5_jars_27 (by decide) ?_
      refine x_iadd dX5_jars_31 ?_
      refine x_val (nI_add _ _) ?_
      refine x_istore_n [(2, .int (nI ((cnt (fun j => decide (gj g j 0 = x)) i) + 1))), (0, .ref a), (1, .int x), (3, .int (nI i))] dX5_jars_32 rfl (by decide) rfl ?_
      refine x_iinc (j := 3) (nI (i + 1)) [(3, .int (nI (i + 1))), (2, .int (nI ((cnt (fun j => decide (gj g j 0 = x)) i) + 1))), (0, .ref a), (1, .int x)] dX5_jars_33 rfl (by first | exact nI_add _ _ | decide) (by decide) rfl ?_
      refine x_goto 4 dX5_jars_36 (by decide) ?_
      refine x_sub [2, 3, 1, 0] (lv' := [(0, .ref a), (1, .int x), (2, .int (nI ((cnt (fun j => decide (gj g j 0 = x)) i) + 1))), (3, .int (nI (i + 1)))]) rfl ?_
      have ec : cnt (fun j => decide (gj g j 0 = x)) (i + 1) = (cnt (fun j => decide (gj g j 0 = x)) i) + 1 := by simp_all [cnt]
      rw [← ec]
      exact ih (by omega)
theorem t_ripe {G : GG} {h : AH} {a : Nat} {g : Nat → Int32} {S : Nat → Nat → Int32} {V : Nat → Int32} (T : Tw h a) (O : GOk g)  : Cal G kX5_ripe 4 0 0 [.ref a] (twh h a g S V) (rI (nI (ripeN g)) (twh h a g S V)) := by
  refine Cal.of (by decide +kernel) (Nat.le_of_ble_eq_true rfl) (fun c => ?_)
  have hJ := O.j
  have hO := O.o
  refine x_iconst (nI 0) dX5_ripe_0 (by decide) ?_
  refine x_istore_n [(1, .int (nI 0)), (0, .ref a)] dX5_ripe_1 rfl (by decide) rfl ?_
  refine x_iconst (nI 0) dX5_ripe_2 (by decide) ?_
  refine x_istore_n [(2, .int (nI 0)), (1, .int (nI 0)), (0, .ref a)] dX5_ripe_3 rfl (by decide) rfl ?_
  refine x_sub [2, 1, 0] (lv' := [(0, .ref a), (1, .int (nI 0)), (2, .int (nI 0))]) rfl ?_
  refine x_bud (bc' := 0) (bs' := 0) (by first | exact Nat.zero_le _ | omega) (by first | exact Nat.zero_le _ | omega) ?_
  refine lpN (P := fun i => X G c kX5_ripe 4 _ _ _ 0 0 (twh h a g S V) 4 [(0, .ref a), (1, .int (nI (cnt (isRipe g) i))), (2, .int (nI i))] []) (nJr g) (fun i hi ih => ?_) 0 (Nat.zero_le _)
  refine x_iload_n dX5_ripe_4 rfl rfl ?_
  refine x_aload_n dX5_ripe_5 rfl rfl ?_
  refine tg_g T (.inl q2082) dX5_ripe_6 ?_
  refine x_bipush (nI 8) dX5_ripe_9 (by decide) ?_
  refine tld1 T rfl (by omega) dX5_ripe_11 ?_
  refine x_val hJ.1 ?_
  refine x_icmp_ge 37 dX5_ripe_12 (by decide) (fun e1 => ?_) (fun e1 => ?_)
  · skip
    have ne1 := e1
    rw [nI_leI (by omega) (by omega)] at ne1
    refine x_iload_n dX5_ripe_37 rfl rfl ?_
    refine x_iret rfl dX5_ripe_38 ?_
    exact rI_of (by rw [show i = nJr g by omega]; rfl)
  · skip
    have ne1 := e1
    rw [nI_leI (by omega) (by omega)] at ne1
    refine x_iload_n dX5_ripe_15 rfl rfl ?_
    refine x_aload_n dX5_ripe_16 rfl rfl ?_
    refine x_iload_n dX5_ripe_17 rfl rfl ?_
    refine x_cVI (t_isRipe T O (by omega) (by omega)) okX5_isRipe clX5 q2322 q2324 qs46 dX5_ripe_18 (Or.inl T.1) rfl rfl (by decide) (Nat.zero_le _) (Nat.zero_le _) (Nat.le_of_ble_eq_true rfl) (fun _ => ?_)
    refine x_if_eqB 28 dX5_ripe_21 (by decide) (fun e2 => ?_) (fun e2 => ?_)
    · skip
      refine x_iconst (nI 0) dX5_ripe_28 (by decide) ?_
      refine x_iadd dX5_ripe_29 ?_
      refine x_val (nI_add _ _) ?_
      refine x_istore_n [(1, .int (nI ((cnt (isRipe g) i) + 0))), (0, .ref a), (2, .int (nI i))] dX5_ripe_30 rfl (by decide) rfl ?_
      refine x_iinc (j := 2) (nI (i + 1)) [(2, .int (nI (i + 1))), (1, .int (nI ((cnt (isRipe g) i) + 0))), (0, .ref a)] dX5_ripe_31 rfl (by first | exact nI_add _ _ | decide) (by decide) rfl ?_
      refine x_goto 4 dX5_ripe_34 (by decide) ?_
      refine x_sub [2, 1, 0] (lv' := [(0, .ref a), (1, .int (nI ((cnt (isRipe g) i) + 0))), (2, .int (nI (i + 1)))]) rfl ?_
      have ec : cnt (isRipe g) (i + 1) = (cnt (isRipe g) i) + 0 := by simp_all [cnt]
      rw [← ec]
      exact ih (by omega)
    · skip
      refine x_iconst (nI 1) dX5_ripe_24 (by decide) ?_
      refine x_goto 29 dX5_ripe_25 (by decide) ?_
      refine x_iadd dX5_ripe_29 ?_
      refine x_val (nI_add _ _) ?_
      refine x_istore_n [(1, .int (nI ((cnt (isRipe g) i) + 1))), (0, .ref a), (2, .int (nI i))] dX5_ripe_30 rfl (by decide) rfl ?_
      refine x_iinc (j := 2) (nI (i + 1)) [(2, .int (nI (i + 1))), (1, .int (nI ((cnt (isRipe g) i) + 1))), (0, .ref a)] dX5_ripe_31 rfl (by first | exact nI_add _ _ | decide) (by decide) rfl ?_
      refine x_goto 4 dX5_ripe_34 (by decide) ?_
      refine x_sub [2, 1, 0] (lv' := [(0, .ref a), (1, .int (nI ((cnt (isRipe g) i) + 1))), (2, .int (nI (i + 1)))]) rfl ?_
      have ec : cnt (isRipe g) (i + 1) = (cnt (isRipe g) i) + 1 := by simp_all [cnt]
      rw [← ec]
      exact ih (by omega)
theorem t_openOrders {G : GG} {h : AH} {a : Nat} {g : Nat → Int32} {S : Nat → Nat → Int32} {V : Nat → Int32} (T : Tw h a) (O : GOk g)  : Cal G kX5_openOrders 1 0 0 [.ref a] (twh h a g S V) (rI (nI (openN g)) (twh h a g S V)) := by
  refine Cal.of (by decide +kernel) (Nat.le_of_ble_eq_true rfl) (fun c => ?_)
  have hJ := O.j
  have hO := O.o
  refine x_iconst (nI 0) dX5_openOrders_0 (by decide) ?_
  refine x_istore_n [(1, .int (nI 0)), (0, .ref a)] dX5_openOrders_1 rfl (by decide) rfl ?_
  refine x_iconst (nI 0) dX5_openOrders_2 (by decide) ?_
  refine x_istore_n [(2, .int (nI 0)), (1, .int (nI 0)), (0, .ref a)] dX5_openOrders_3 rfl (by decide) rfl ?_
  refine x_sub [2, 1, 0] (lv' := [(0, .ref a), (1, .int (nI 0)), (2, .int (nI 0))]) rfl ?_
  refine x_bud (bc' := 0) (bs' := 0) (by first | exact Nat.zero_le _ | omega) (by first | exact Nat.zero_le _ | omega) ?_
  refine lpN (P := fun i => X G c kX5_openOrders 1 _ _ _ 0 0 (twh h a g S V) 4 [(0, .ref a), (1, .int (nI (cnt (fun o => decide (go g o 2 = 0)) i))), (2, .int (nI i))] []) (nOr g) (fun i hi ih => ?_) 0 (Nat.zero_le _)
  refine x_iload_n dX5_openOrders_4 rfl rfl ?_
  refine x_aload_n dX5_openOrders_5 rfl rfl ?_
  refine tg_g T (.inl q2082) dX5_openOrders_6 ?_
  refine x_bipush (nI 9) dX5_openOrders_9 (by decide) ?_
  refine tld1 T rfl (by omega) dX5_openOrders_11 ?_
  refine x_val hO.1 ?_
  refine x_icmp_ge 38 dX5_openOrders_12 (by decide) (fun e1 => ?_) (fun e1 => ?_)
  · skip
    have ne1 := e1
    rw [nI_leI (by omega) (by omega)] at ne1
    refine x_iload_n dX5_openOrders_38 rfl rfl ?_
    refine x_iret rfl dX5_openOrders_39 ?_
    exact rI_of (by rw [show i = nOr g by omega]; rfl)
  · skip
    have ne1 := e1
    rw [nI_leI (by omega) (by omega)] at ne1
    refine x_iload_n dX5_openOrders_15 rfl rfl ?_
    refine x_aload_n dX5_openOrders_16 rfl rfl ?_
    refine x_iload_n dX5_openOrders_17 rfl rfl ?_
    refine x_iconst (nI 2) dX5_openOrders_18 (by decide) ?_
    refine x_cVI (t_ofOrder T (by omega)) okX5_ofOrder clX5 q2314 q2316 qs44 dX5_openOrders_19 (Or.inl T.1) rfl rfl (by decide) (Nat.zero_le _) (Nat.zero_le _) (Nat.le_of_ble_eq_true rfl) (fun _ => ?_)
    refine x_if_ne 29 dX5_openOrders_22 (by decide) (fun e2 => ?_) (fun e2 => ?_)
    · skip
      refine x_iconst (nI 0) dX5_openOrders_29 (by decide) ?_
      refine x_iadd dX5_openOrders_30 ?_
      refine x_val (nI_add _ _) ?_
      refine x_istore_n [(1, .int (nI ((cnt (fun o => decide (go g o 2 = 0)) i) + 0))), (0, .ref a), (2, .int (nI i))] dX5_openOrders_31 rfl (by decide) rfl ?_
      refine x_iinc (j := 2) (nI (i + 1)) [(2, .int (nI (i + 1))), (1, .int (nI ((cnt (fun o => decide (go g o 2 = 0)) i) + 0))), (0, .ref a)] dX5_openOrders_32 rfl (by first | exact nI_add _ _ | decide) (by decide) rfl ?_
      refine x_goto 4 dX5_openOrders_35 (by decide) ?_
      refine x_sub [2, 1, 0] (lv' := [(0, .ref a), (1, .int (nI ((cnt (fun o => decide (go g o 2 = 0)) i) + 0))), (2, .int (nI (i + 1)))]) rfl ?_
      have ec : cnt (fun o => decide (go g o 2 = 0)) (i + 1) = (cnt (fun o => decide (go g o 2 = 0)) i) + 0 := by simp_all [cnt]
      rw [← ec]
      exact ih (by omega)
    · skip
      refine x_iconst (nI 1) dX5_openOrders_25 (by decide) ?_
      refine x_goto 30 dX5_openOrders_26 (by decide) ?_
      refine x_iadd dX5_openOrders_30 ?_
      refine x_val (nI_add _ _) ?_
      refine x_istore_n [(1, .int (nI ((cnt (fun o => decide (go g o 2 = 0)) i) + 1))), (0, .ref a), (2, .int (nI i))] dX5_openOrders_31 rfl (by decide) rfl ?_
      refine x_iinc (j := 2) (nI (i + 1)) [(2, .int (nI (i + 1))), (1, .int (nI ((cnt (fun o => decide (go g o 2 = 0)) i) + 1))), (0, .ref a)] dX5_openOrders_32 rfl (by first | exact nI_add _ _ | decide) (by decide) rfl ?_
      refine x_goto 4 dX5_openOrders_35 (by decide) ?_
      refine x_sub [2, 1, 0] (lv' := [(0, .ref a), (1, .int (nI ((cnt (fun o => decide (go g o 2 = 0)) i) + 1))), (2, .int (nI (i + 1)))]) rfl ?_
      have ec : cnt (fun o => decide (go g o 2 = 0)) (i + 1) = (cnt (fun o => decide (go g o 2 = 0)) i) + 1 := by simp_all [cnt]
      rw [← ec]
      exact ih (by omega)
theorem t_laid {G : GG} {h : AH} {a : Nat} {g : Nat → Int32} {S : Nat → Nat → Int32} {V : Nat → Int32} (T : Tw h a)  : Cal G kX5_laid 0 0 0 [.ref a] (twh h a g S V) (rI (nI (laidN g)) (twh h a g S V)) := by
  refine Cal.of (by decide +kernel) (Nat.le_of_ble_eq_true rfl) (fun c => ?_)
  refine x_iconst (nI 0) dX5_laid_0 (by decide) ?_
  refine x_istore_n [(1, .int (nI 0)), (0, .ref a)] dX5_laid_1 rfl (by decide) rfl ?_
  refine x_iconst (nI 0) dX5_laid_2 (by decide) ?_
  refine x_istore_n [(2, .int (nI 0)), (1, .int (nI 0)), (0, .ref a)] dX5_laid_3 rfl (by decide) rfl ?_
  refine x_sub [2, 1, 0] (lv' := [(0, .ref a), (1, .int (nI 0)), (2, .int (nI 0))]) rfl ?_
  refine x_bud (bc' := 0) (bs' := 0) (by first | exact Nat.zero_le _ | omega) (by first | exact Nat.zero_le _ | omega) ?_
  refine lpN (P := fun i => X G c kX5_laid 0 _ _ _ 0 0 (twh h a g S V) 4 [(0, .ref a), (1, .int (nI (cnt (fun p => decide (0 ≤ g (12 + p))) i))), (2, .int (nI i))] []) 4 (fun i hi ih => ?_) 0 (Nat.zero_le _)
  refine x_iload_n dX5_laid_4 rfl rfl ?_
  refine x_iconst (nI 4) dX5_laid_5 (by decide) ?_
  refine x_icmp_ge 35 dX5_laid_6 (by decide) (fun e1 => ?_) (fun e1 => ?_)
  · skip
    have ne1 := e1
    rw [nI_leI (by omega) (by omega)] at ne1
    refine x_iload_n dX5_laid_35 rfl rfl ?_
    refine x_iret rfl dX5_laid_36 ?_
    exact rI_of (by rw [show i = 4 by omega]; rfl)
  · skip
    have ne1 := e1
    rw [nI_leI (by omega) (by omega)] at ne1
    refine x_iload_n dX5_laid_9 rfl rfl ?_
    refine x_aload_n dX5_laid_10 rfl rfl ?_
    refine tg_g T (.inl q2082) dX5_laid_11 ?_
    refine x_bipush (nI 12) dX5_laid_14 (by decide) ?_
    refine x_iload_n dX5_laid_16 rfl rfl ?_
    refine x_iadd dX5_laid_17 ?_
    refine x_val (nI_add _ _) ?_
    refine tld1 T rfl (by omega) dX5_laid_18 ?_
    refine x_if_lt 26 dX5_laid_19 (by decide) (fun e2 => ?_) (fun e2 => ?_)
    · skip
      refine x_iconst (nI 0) dX5_laid_26 (by decide) ?_
      refine x_iadd dX5_laid_27 ?_
      refine x_val (nI_add _ _) ?_
      refine x_istore_n [(1, .int (nI ((cnt (fun p => decide (0 ≤ g (12 + p))) i) + 0))), (0, .ref a), (2, .int (nI i))] dX5_laid_28 rfl (by decide) rfl ?_
      refine x_iinc (j := 2) (nI (i + 1)) [(2, .int (nI (i + 1))), (1, .int (nI ((cnt (fun p => decide (0 ≤ g (12 + p))) i) + 0))), (0, .ref a)] dX5_laid_29 rfl (by first | exact nI_add _ _ | decide) (by decide) rfl ?_
      refine x_goto 4 dX5_laid_32 (by decide) ?_
      refine x_sub [2, 1, 0] (lv' := [(0, .ref a), (1, .int (nI ((cnt (fun p => decide (0 ≤ g (12 + p))) i) + 0))), (2, .int (nI (i + 1)))]) rfl ?_
      have ec : cnt (fun p => decide (0 ≤ g (12 + p))) (i + 1) = (cnt (fun p => decide (0 ≤ g (12 + p))) i) + 0 := by simp_all [cnt]
      rw [← ec]
      exact ih (by omega)
    · skip
      refine x_iconst (nI 1) dX5_laid_22 (by decide) ?_
      refine x_goto 27 dX5_laid_23 (by decide) ?_
      refine x_iadd dX5_laid_27 ?_
      refine x_val (nI_add _ _) ?_
      refine x_istore_n [(1, .int (nI ((cnt (fun p => decide (0 ≤ g (12 + p))) i) + 1))), (0, .ref a), (2, .int (nI i))] dX5_laid_28 rfl (by decide) rfl ?_
      refine x_iinc (j := 2) (nI (i + 1)) [(2, .int (nI (i + 1))), (1, .int (nI ((cnt (fun p => decide (0 ≤ g (12 + p))) i) + 1))), (0, .ref a)] dX5_laid_29 rfl (by first | exact nI_add _ _ | decide) (by decide) rfl ?_
      refine x_goto 4 dX5_laid_32 (by decide) ?_
      refine x_sub [2, 1, 0] (lv' := [(0, .ref a), (1, .int (nI ((cnt (fun p => decide (0 ≤ g (12 + p))) i) + 1))), (2, .int (nI (i + 1)))]) rfl ?_
      have ec : cnt (fun p => decide (0 ≤ g (12 + p))) (i + 1) = (cnt (fun p => decide (0 ≤ g (12 + p))) i) + 1 := by simp_all [cnt]
      rw [← ec]
      exact ih (by omega)
