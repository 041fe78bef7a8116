/-! THE REFERENCE, eighth part: lines; printed by tools/tw8.py -/
set_option maxRecDepth 100000
def wrs (s : Nat → Int32) (l : List Int32) : Nat → Int32 := fun k => if k < l.length then l.getD k 0 else s k
theorem wrs_app {s : Nat → Int32} {l : List Int32} {x : Int32} : upd (wrs s l) l.length x = wrs s (l ++ [x]) := by
  funext k
  unfold upd wrs
  rw [List.length_append, List.length_singleton]
  by_cases e : k = l.length
  · subst e
    rw [if_pos rfl, if_pos (by omega)]
    simp [List.getD_eq_getElem?_getD]
  · rw [if_neg e]
    by_cases f : k < l.length
    · rw [if_pos f, if_pos (by omega)]
      simp [List.getD_eq_getElem?_getD, List.getElem?_append_left f]
    · rw [if_neg f, if_neg (by omega)]
theorem wrs_nil {s : Nat → Int32} : wrs s [] = s := by
  funext k
  exact if_neg (Nat.not_lt_zero _)
theorem upS_id {S : Nat → Nat → Int32} {i : Nat} : upS S i (S i) = S := by
  funext k
  unfold upS
  split
  · next e => rw [e]
  · rfl
theorem upS_upS {S : Nat → Nat → Int32} {i : Nat} {F F2 : Nat → Int32} : upS (upS S i F) i F2 = upS S i F2 := by
  funext k
  unfold upS
  split <;> rfl
/-- the reference, where the line is l -/
abbrev lnH (h : AH) (a : Nat) (g : Nat → Int32) (S : Nat → Nat → Int32) (V : Nat → Int32) (l : List Int32) : AH := twh h a g (upS S 7 (wrs (S 7) l)) (upd V 40 (nI l.length))
theorem take_up {l : List Int32} {k : Nat} (h : k < l.length) : l.take (k + 1) = l.take k ++ [l.getD k 0] := by
  rw [List.take_add_one, List.getD_eq_getElem?_getD, List.getElem?_eq_getElem h]
  rfl
/-- the digits of a number below 100000 -/
def dgc (n t : Nat) : Int32 := nI (48 + n / t % 10)
def dg (n : Nat) : List Int32 :=
  if n < 10 then [dgc n 1] else if n < 100 then [dgc n 10, dgc n 1] else if n < 1000 then [dgc n 100, dgc n 10, dgc n 1] else if n < 10000 then [dgc n 1000, dgc n 100, dgc n 10, dgc n 1] else [dgc n 10000, dgc n 1000, dgc n 100, dgc n 10, dgc n 1]
theorem dg_le (n : Nat) : (dg n).length ≤ 5 := by
  unfold dg
  split
  · exact (by decide : 1 ≤ 5)
  · split
    · exact (by decide : 2 ≤ 5)
    · split
      · exact (by decide : 3 ≤ 5)
      · split
        · exact (by decide : 4 ≤ 5)
        · exact (by decide : 5 ≤ 5)
theorem t_writes {G : GG} {h : AH} {a : Nat} {g : Nat → Int32} {S : Nat → Nat → Int32} {V : Nat → Int32} (T : Tw h a) {l : List Int32} {k : Nat} (hk : k < 128) (hl : l.length < 60) : Cal G kX5_writes 0 0 0 [.ref a, .int (nI k)] (lnH h a g S V l) (rV (lnH h a g S V (l ++ [nI k]))) := by
  refine Cal.of (by decide +kernel) (Nat.le_of_ble_eq_true rfl) (fun c => ?_)
  refine x_aload_n dX5_writes_0 rfl rfl ?_
  refine tg_signs T (.inl q2097) dX5_writes_1 ?_
  refine x_aload_n dX5_writes_4 rfl rfl ?_
  refine tg_signMany T (.inl q2098) dX5_writes_5 ?_
  refine x_iload_n dX5_writes_8 rfl rfl ?_
  refine x_i2c _ dX5_writes_9 rfl ?_
  refine x_val (i2c_k hk) ?_
  refine tst7 T rfl (by omega) dX5_writes_10 ?_
  refine x_aload_n dX5_writes_11 rfl rfl ?_
  refine x_dup dX5_writes_12 rfl ?_
  refine tg_signMany T (.inl q2098) dX5_writes_13 ?_
  refine x_iconst (nI 1) dX5_writes_16 (by decide) ?_
  refine x_iadd dX5_writes_17 ?_
  refine x_val (nI_add _ _) ?_
  refine tp_signMany T (.inl q2098) dX5_writes_18 ?_
  refine x_vret rfl dX5_writes_21 ?_
  exact rV_of2 (by rw [upS_upS, upS_s, upd_uu, show vp_nar .char (nI k) = nI k from by have e := chr_nar hk; unfold vp_nar; rw [e], wrs_app, show l.length + 1 = (l ++ [nI k]).length from by simp])
theorem t_wN1 {G : GG} {h : AH} {a : Nat} {g : Nat → Int32} {S : Nat → Nat → Int32} {V : Nat → Int32} (T : Tw h a) {l : List Int32} {n : Nat} (h1 : 0 ≤ n) (h2 : n < 10) (hl : l.length + 1 ≤ 60) : Cal G kX5_writesNumber 1 0 0 [.ref a, .int (nI n)] (lnH h a g S V l) (rV (lnH h a g S V (l ++ dg n))) := by
  refine Cal.of (by decide +kernel) (Nat.le_of_ble_eq_true rfl) (fun c => ?_)
  have hdg : dg n = [dgc n 1] := by
    unfold dg
    rw [if_pos (by omega)]
  refine x_iconst (nI 1) dX5_writesNumber_0 (by decide) ?_
  refine x_istore_n [(2, .int (nI 1)), (0, .ref a), (1, .int (nI n))] dX5_writesNumber_1 rfl (by decide) rfl ?_
  refine x_iload_n dX5_writesNumber_2 rfl rfl ?_
  refine x_iload_n dX5_writesNumber_3 rfl rfl ?_
  refine x_idiv dX5_writesNumber_4 (by decide) ?_
  refine x_val (pk_div (by omega) (by decide) (by decide)) ?_
  refine x_bipush (nI 9) dX5_writesNumber_5 (by decide) ?_
  refine x_icmp_le 18 dX5_writesNumber_7 (by decide) (fun _ => ?_) (fun z => False.elim (z ((nI_leI (by omega) (by decide)).mpr (by omega))))
  refine x_iload_n dX5_writesNumber_18 rfl rfl ?_
  refine x_if_le 43 dX5_writesNumber_19 (by decide) (fun z => False.elim (by revert z; decide)) (fun _ => ?_)
  refine x_aload_n dX5_writesNumber_22 rfl rfl ?_
  refine x_bipush (nI 48) dX5_writesNumber_23 (by decide) ?_
  refine x_iload_n dX5_writesNumber_25 rfl rfl ?_
  refine x_iload_n dX5_writesNumber_26 rfl rfl ?_
  refine x_idiv dX5_writesNumber_27 (by decide) ?_
  refine x_val (pk_div (by omega) (by decide) (by decide)) ?_
  refine x_bipush (nI 10) dX5_writesNumber_28 (by decide) ?_
  refine x_irem dX5_writesNumber_30 (by decide) ?_
  refine x_val (pk_rem (by omega) (by decide) (by decide)) ?_
  refine x_iadd dX5_writesNumber_31 ?_
  refine x_val (nI_add _ _) ?_
  refine x_cVV (t_writes (k := (48 + (n / 1 % 10))) T (by omega) (by first | omega | (simp only [List.length_append, List.length_singleton]; omega))) okX5_writes clX5 q2366 q2368 qs50 dX5_writesNumber_32 (Or.inl T.1) rfl rfl (by decide) (Nat.zero_le _) (Nat.zero_le _) (Nat.le_of_ble_eq_true rfl) (fun _ => ?_)
  refine x_iload_n dX5_writesNumber_35 rfl rfl ?_
  refine x_bipush (nI 10) dX5_writesNumber_36 (by decide) ?_
  refine x_idiv dX5_writesNumber_38 (by decide) ?_
  refine x_val (rfl : nI 1 / nI 10 = nI 0) ?_
  refine x_istore_n [(2, .int (nI 0)), (0, .ref a), (1, .int (nI n))] dX5_writesNumber_39 rfl (by decide) rfl ?_
  refine x_goto 18 dX5_writesNumber_40 (by decide) ?_
  refine x_iload_n dX5_writesNumber_18 rfl rfl ?_
  refine x_if_le 43 dX5_writesNumber_19 (by decide) (fun _ => ?_) (fun z => False.elim (by revert z; decide))
  refine x_vret rfl dX5_writesNumber_43 ?_
  refine rV_of2 ?_
  rw [show dg n = _ from hdg]
  simp only [List.append_assoc, List.cons_append, List.nil_append, dgc]
theorem t_wN2 {G : GG} {h : AH} {a : Nat} {g : Nat → Int32} {S : Nat → Nat → Int32} {V : Nat → Int32} (T : Tw h a) {l : List Int32} {n : Nat} (h1 : 10 ≤ n) (h2 : n < 100) (hl : l.length + 2 ≤ 60) : Cal G kX5_writesNumber 1 0 0 [.ref a, .int (nI n)] (lnH h a g S V l) (rV (lnH h a g S V (l ++ dg n))) := by
  refine Cal.of (by decide +kernel) (Nat.le_of_ble_eq_true rfl) (fun c => ?_)
  have hdg : dg n = [dgc n 10, dgc n 1] := by
    unfold dg
    rw [if_neg (by omega), if_pos (by omega)]
  refine x_iconst (nI 1) dX5_writesNumber_0 (by decide) ?_
  refine x_istore_n [(2, .int (nI 1)), (0, .ref a), (1, .int (nI n))] dX5_writesNumber_1 rfl (by decide) rfl ?_
  refine x_iload_n dX5_writesNumber_2 rfl rfl ?_
  refine x_iload_n dX5_writesNumber_3 rfl rfl ?_
  refine x_idiv dX5_writesNumber_4 (by decide) ?_
  refine x_val (pk_div (by omega) (by decide) (by decide)) ?_
  refine x_bipush (nI 9) dX5_writesNumber_5 (by decide) ?_
  refine x_icmp_le 18 dX5_writesNumber_7 (by decide) (fun z => False.elim (by rw [nI_leI (by omega) (by decide)] at z; omega)) (fun _ => ?_)
  refine x_iload_n dX5_writesNumber_10 rfl rfl ?_
  refine x_bipush (nI 10) dX5_writesNumber_11 (by decide) ?_
  refine x_imul dX5_writesNumber_13 ?_
  refine x_val (pk_mul _ _) ?_
  refine x_val (rfl : nI (1 * 10) = nI 10) ?_
  refine x_istore_n [(2, .int (nI 10)), (0, .ref a), (1, .int (nI n))] dX5_writesNumber_14 rfl (by decide) rfl ?_
  refine x_goto 2 dX5_writesNumber_15 (by decide) ?_
  refine x_iload_n dX5_writesNumber_2 rfl rfl ?_
  refine x_iload_n dX5_writesNumber_3 rfl rfl ?_
  refine x_idiv dX5_writesNumber_4 (by decide) ?_
  refine x_val (pk_div (by omega) (by decide) (by decide)) ?_
  refine x_bipush (nI 9) dX5_writesNumber_5 (by decide) ?_
  refine x_icmp_le 18 dX5_writesNumber_7 (by decide) (fun _ => ?_) (fun z => False.elim (z ((nI_leI (by omega) (by decide)).mpr (by omega))))
  refine x_iload_n dX5_writesNumber_18 rfl rfl ?_
  refine x_if_le 43 dX5_writesNumber_19 (by decide) (fun z => False.elim (by revert z; decide)) (fun _ => ?_)
  refine x_aload_n dX5_writesNumber_22 rfl rfl ?_
  refine x_bipush (nI 48) dX5_writesNumber_23 (by decide) ?_
  refine x_iload_n dX5_writesNumber_25 rfl rfl ?_
  refine x_iload_n dX5_writesNumber_26 rfl rfl ?_
  refine x_idiv dX5_writesNumber_27 (by decide) ?_
  refine x_val (pk_div (by omega) (by decide) (by decide)) ?_
  refine x_bipush (nI 10) dX5_writesNumber_28 (by decide) ?_
  refine x_irem dX5_writesNumber_30 (by decide) ?_
  refine x_val (pk_rem (by omega) (by decide) (by decide)) ?_
  refine x_iadd dX5_writesNumber_31 ?_
  refine x_val (nI_add _ _) ?_
  refine x_cVV (t_writes (k := (48 + (n / 10 % 10))) T (by omega) (by first | omega | (simp only [List.length_append, List.length_singleton]; omega))) okX5_writes clX5 q2366 q2368 qs50 dX5_writesNumber_32 (Or.inl T.1) rfl rfl (by decide) (Nat.zero_le _) (Nat.zero_le _) (Nat.le_of_ble_eq_true rfl) (fun _ => ?_)
  refine x_iload_n dX5_writesNumber_35 rfl rfl ?_
  refine x_bipush (nI 10) dX5_writesNumber_36 (by decide) ?_
  refine x_idiv dX5_writesNumber_38 (by decide) ?_
  refine x_val (rfl : nI 10 / nI 10 = nI 1) ?_
  refine x_istore_n [(2, .int (nI 1)), (0, .ref a), (1, .int (nI n))] dX5_writesNumber_39 rfl (by decide) rfl ?_
  refine x_goto 18 dX5_writesNumber_40 (by decide) ?_
  refine x_iload_n dX5_writesNumber_18 rfl rfl ?_
  refine x_if_le 43 dX5_writesNumber_19 (by decide) (fun z => False.elim (by revert z; decide)) (fun _ => ?_)
  refine x_aload_n dX5_writesNumber_22 rfl rfl ?_
  refine x_bipush (nI 48) dX5_writesNumber_23 (by decide) ?_
  refine x_iload_n dX5_writesNumber_25 rfl rfl ?_
  refine x_iload_n dX5_writesNumber_26 rfl rfl ?_
  refine x_idiv dX5_writesNumber_27 (by decide) ?_
  refine x_val (pk_div (by omega) (by decide) (by decide)) ?_
  refine x_bipush (nI 10) dX5_writesNumber_28 (by decide) ?_
  refine x_irem dX5_writesNumber_30 (by decide) ?_
  refine x_val (pk_rem (by omega) (by decide) (by decide)) ?_
  refine x_iadd dX5_writesNumber_31 ?_
  refine x_val (nI_add _ _) ?_
  refine x_cVV (t_writes (k := (48 + (n / 1 % 10))) T (by omega) (by first | omega | (simp only [List.length_append, List.length_singleton]; omega))) okX5_writes clX5 q2366 q2368 qs50 dX5_writesNumber_32 (Or.inl T.1) rfl rfl (by decide) (Nat.zero_le _) (Nat.zero_le _) (Nat.le_of_ble_eq_true rfl) (fun _ => ?_)
  refine x_iload_n dX5_writesNumber_35 rfl rfl ?_
  refine x_bipush (nI 10) dX5_writesNumber_36 (by decide) ?_
  refine x_idiv dX5_writesNumber_38 (by decide) ?_
  refine x_val (rfl : nI 1 / nI 10 = nI 0) ?_
  refine x_istore_n [(2, .int (nI 0)), (0, .ref a), (1, .int (nI n))] dX5_writesNumber_39 rfl (by decide) rfl ?_
  refine x_goto 18 dX5_writesNumber_40 (by decide) ?_
  refine x_iload_n dX5_writesNumber_18 rfl rfl ?_
  refine x_if_le 43 dX5_writesNumber_19 (by decide) (fun _ => ?_) (fun z => False.elim (by revert z; decide))
  refine x_vret rfl dX5_writesNumber_43 ?_
  refine rV_of2 ?_
  rw [show dg n = _ from hdg]
  simp only [List.append_assoc, List.cons_append, List.nil_append, dgc]
theorem t_wN3 {G : GG} {h : AH} {a : Nat} {g : Nat → Int32} {S : Nat → Nat → Int32} {V : Nat → Int32} (T : Tw h a) {l : List Int32} {n : Nat} (h1 : 100 ≤ n) (h2 : n < 1000) (hl : l.length + 3 ≤ 60) : Cal G kX5_writesNumber 1 0 0 [.ref a, .int (nI n)] (lnH h a g S V l) (rV (lnH h a g S V (l ++ dg n))) := by
  refine Cal.of (by decide +kernel) (Nat.le_of_ble_eq_true rfl) (fun c => ?_)
  have hdg : dg n = [dgc n 100, dgc n 10, dgc n 1] := by
    unfold dg
    rw [if_neg (by omega), if_neg (by omega), if_pos (by omega)]
  refine x_iconst (nI 1) dX5_writesNumber_0 (by decide) ?_
  refine x_istore_n [(2, .int (nI 1)), (0, .ref a), (1, .int (nI n))] dX5_writesNumber_1 rfl (by decide) rfl ?_
  refine x_iload_n dX5_writesNumber_2 rfl rfl ?_
  refine x_iload_n dX5_writesNumber_3 rfl rfl ?_
  refine x_idiv dX5_writesNumber_4 (by decide) ?_
  refine x_val (pk_div (by omega) (by decide) (by decide)) ?_
  refine x_bipush (nI 9) dX5_writesNumber_5 (by decide) ?_
  refine x_icmp_le 18 dX5_writesNumber_7 (by decide) (fun z => False.elim (by rw [nI_leI (by omega) (by decide)] at z; omega)) (fun _ => ?_)
  refine x_iload_n dX5_writesNumber_10 rfl rfl ?_
  refine x_bipush (nI 10) dX5_writesNumber_11 (by decide) ?_
  refine x_imul dX5_writesNumber_13 ?_
  refine x_val (pk_mul _ _) ?_
  refine x_val (rfl : nI (1 * 10) = nI 10) ?_
  refine x_istore_n [(2, .int (nI 10)), (0, .ref a), (1, .int (nI n))] dX5_writesNumber_14 rfl (by decide) rfl ?_
  refine x_goto 2 dX5_writesNumber_15 (by decide) ?_
  refine x_iload_n dX5_writesNumber_2 rfl rfl ?_
  refine x_iload_n dX5_writesNumber_3 rfl rfl ?_
  refine x_idiv dX5_writesNumber_4 (by decide) ?_
  refine x_val (pk_div (by omega) (by decide) (by decide)) ?_
  refine x_bipush (nI 9) dX5_writesNumber_5 (by decide) ?_
  refine x_icmp_le 18 dX5_writesNumber_7 (by decide) (fun z => False.elim (by rw [nI_leI (by omega) (by decide)] at z; omega)) (fun _ => ?_)
  refine x_iload_n dX5_writesNumber_10 rfl rfl ?_
  refine x_bipush (nI 10) dX5_writesNumber_11 (by decide) ?_
  refine x_imul dX5_writesNumber_13 ?_
  refine x_val (pk_mul _ _) ?_
  refine x_val (rfl : nI (10 * 10) = nI 100) ?_
  refine x_istore_n [(2, .int (nI 100)), (0, .ref a), (1, .int (nI n))] dX5_writesNumber_14 rfl (by decide) rfl ?_
  refine x_goto 2 dX5_writesNumber_15 (by decide) ?_
  refine x_iload_n dX5_writesNumber_2 rfl rfl ?_
  refine x_iload_n dX5_writesNumber_3 rfl rfl ?_
  refine x_idiv dX5_writesNumber_4 (by decide) ?_
  refine x_val (pk_div (by omega) (by decide) (by decide)) ?_
  refine x_bipush (nI 9) dX5_writesNumber_5 (by decide) ?_
  refine x_icmp_le 18 dX5_writesNumber_7 (by decide) (fun _ => ?_) (fun z => False.elim (z ((nI_leI (by omega) (by decide)).mpr (by omega))))
  refine x_iload_n dX5_writesNumber_18 rfl rfl ?_
  refine x_if_le 43 dX5_writesNumber_19 (by decide) (fun z => False.elim (by revert z; decide)) (fun _ => ?_)
  refine x_aload_n dX5_writesNumber_22 rfl rfl ?_
  refine x_bipush (nI 48) dX5_writesNumber_23 (by decide) ?_
  refine x_iload_n dX5_writesNumber_25 rfl rfl ?_
  refine x_iload_n dX5_writesNumber_26 rfl rfl ?_
  refine x_idiv dX5_writesNumber_27 (by decide) ?_
  refine x_val (pk_div (by omega) (by decide) (by decide)) ?_
  refine x_bipush (nI 10) dX5_writesNumber_28 (by decide) ?_
  refine x_irem dX5_writesNumber_30 (by decide) ?_
  refine x_val (pk_rem (by omega) (by decide) (by decide)) ?_
  refine x_iadd dX5_writesNumber_31 ?_
  refine x_val (nI_add _ _) ?_
  refine x_cVV (t_writes (k := (48 + (n / 100 % 10))) T (by omega) (by first | omega | (simp only [List.length_append, List.length_singleton]; omega))) okX5_writes clX5 q2366 q2368 qs50 dX5_writesNumber_32 (Or.inl T.1) rfl rfl (by decide) (Nat.zero_le _) (Nat.zero_le _) (Nat.le_of_ble_eq_true rfl) (fun _ => ?_)
  refine x_iload_n dX5_writesNumber_35 rfl rfl ?_
  refine x_bipush (nI 10) dX5_writesNumber_36 (by decide) ?_
  refine x_idiv dX5_writesNumber_38 (by decide) ?_
  refine x_val (rfl : nI 100 / nI 10 = nI 10) ?_
  refine x_istore_n [(2, .int (nI 10)), (0, .ref a), (1, .int (nI n))] dX5_writesNumber_39 rfl (by decide) rfl ?_
  refine x_goto 18 dX5_writesNumber_40 (by decide) ?_
  refine x_iload_n dX5_writesNumber_18 rfl rfl ?_
  refine x_if_le 43 dX5_writesNumber_19 (by decide) (fun z => False.elim (by revert z; decide)) (fun _ => ?_)
  refine x_aload_n dX5_writesNumber_22 rfl rfl ?_
  refine x_bipush (nI 48) dX5_writesNumber_23 (by decide) ?_
  refine x_iload_n dX5_writesNumber_25 rfl rfl ?_
  refine x_iload_n dX5_writesNumber_26 rfl rfl ?_
  refine x_idiv dX5_writesNumber_27 (by decide) ?_
  refine x_val (pk_div (by omega) (by decide) (by decide)) ?_
  refine x_bipush (nI 10) dX5_writesNumber_28 (by decide) ?_
  refine x_irem dX5_writesNumber_30 (by decide) ?_
  refine x_val (pk_rem (by omega) (by decide) (by decide)) ?_
  refine x_iadd dX5_writesNumber_31 ?_
  refine x_val (nI_add _ _) ?_
  refine x_cVV (t_writes (k := (48 + (n / 10 % 10))) T (by omega) (by first | omega | (simp only [List.length_append, List.length_singleton]; omega))) okX5_writes clX5 q2366 q2368 qs50 dX5_writesNumber_32 (Or.inl T.1) rfl rfl (by decide) (Nat.zero_le _) (Nat.zero_le _) (Nat.le_of_ble_eq_true rfl) (fun _ => ?_)
  refine x_iload_n dX5_writesNumber_35 rfl rfl ?_
  refine x_bipush (nI 10) dX5_writesNumber_36 (by decide) ?_
  refine x_idiv dX5_writesNumber_38 (by decide) ?_
  refine x_val (rfl : nI 10 / nI 10 = nI 1) ?_
  refine x_istore_n [(2, .int (nI 1)), (0, .ref a), (1, .int (nI n))] dX5_writesNumber_39 rfl (by decide) rfl ?_
  refine x_goto 18 dX5_writesNumber_40 (by decide) ?_
  refine x_iload_n dX5_writesNumber_18 rfl rfl ?_
  refine x_if_le 43 dX5_writesNumber_19 (by decide) (fun z => False.elim (by revert z; decide)) (fun _ => ?_)
  refine x_aload_n dX5_writesNumber_22 rfl rfl ?_
  refine x_bipush (nI 48) dX5_writesNumber_23 (by decide) ?_
  refine x_iload_n dX5_writesNumber_25 rfl rfl ?_
  refine x_iload_n dX5_writesNumber_26 rfl rfl ?_
  refine x_idiv dX5_writesNumber_27 (by decide) ?_
  refine x_val (pk_div (by omega) (by decide) (by decide)) ?_
  refine x_bipush (nI 10) dX5_writesNumber_28 (by decide) ?_
  refine x_irem dX5_writesNumber_30 (by decide) ?_
  refine x_val (pk_rem (by omega) (by decide) (by decide)) ?_
  refine x_iadd dX5_writesNumber_31 ?_
  refine x_val (nI_add _ _) ?_
  refine x_cVV (t_writes (k := (48 + (n / 1 % 10))) T (by omega) (by first | omega | (simp only [List.length_append, List.length_singleton]; omega))) okX5_writes clX5 q2366 q2368 qs50 dX5_writesNumber_32 (Or.inl T.1) rfl rfl (by decide) (Nat.zero_le _) (Nat.zero_le _) (Nat.le_of_ble_eq_true rfl) (fun _ => ?_)
  refine x_iload_n dX5_writesNumber_35 rfl rfl ?_
  refine x_bipush (nI 10) dX5_writesNumber_36 (by decide) ?_
  refine x_idiv dX5_writesNumber_38 (by decide) ?_
  refine x_val (rfl : nI 1 / nI 10 = nI 0) ?_
  refine x_istore_n [(2, .int (nI 0)), (0, .ref a), (1, .int (nI n))] dX5_writesNumber_39 rfl (by decide) rfl ?_
  refine x_goto 18 dX5_writesNumber_40 (by decide) ?_
  refine x_iload_n dX5_writesNumber_18 rfl rfl ?_
  refine x_if_le 43 dX5_writesNumber_19 (by decide) (fun _ => ?_) (fun z => False.elim (by revert z; decide))
  refine x_vret rfl dX5_writesNumber_43 ?_
  refine rV_of2 ?_
  rw [show dg n = _ from hdg]
  simp only [List.append_assoc, List.cons_append, List.nil_append, dgc]
theorem t_wN4 {G : GG} {h : AH} {a : Nat} {g : Nat → Int32} {S : Nat → Nat → Int32} {V : Nat → Int32} (T : Tw h a) {l : List Int32} {n : Nat} (h1 : 1000 ≤ n) (h2 : n < 10000) (hl : l.length + 4 ≤ 60) : Cal G kX5_writesNumber 1 0 0 [.ref a, .int (nI n)] (lnH h a g S V l) (rV (lnH h a g S V (l ++ dg n))) := by
  refine Cal.of (by decide +kernel) (Nat.le_of_ble_eq_true rfl) (fun c => ?_)
  have hdg : dg n = [dgc n 1000, dgc n 100, dgc n 10, dgc n 1] := by
    unfold dg
    rw [if_neg (by omega), if_neg (by omega), if_neg (by omega), if_pos (by omega)]
  refine x_iconst (nI 1) dX5_writesNumber_0 (by decide) ?_
  refine x_istore_n [(2, .int (nI 1)), (0, .ref a), (1, .int (nI n))] dX5_writesNumber_1 rfl (by decide) rfl ?_
  refine x_iload_n dX5_writesNumber_2 rfl rfl ?_
  refine x_iload_n dX5_writesNumber_3 rfl rfl ?_
  refine x_idiv dX5_writesNumber_4 (by decide) ?_
  refine x_val (pk_div (by omega) (by decide) (by decide)) ?_
  refine x_bipush (nI 9) dX5_writesNumber_5 (by decide) ?_
  refine x_icmp_le 18 dX5_writesNumber_7 (by decide) (fun z => False.elim (by rw [nI_leI (by omega) (by decide)] at z; omega)) (fun _ => ?_)
  refine x_iload_n dX5_writesNumber_10 rfl rfl ?_
  refine x_bipush (nI 10) dX5_writesNumber_11 (by decide) ?_
  refine x_imul dX5_writesNumber_13 ?_
  refine x_val (pk_mul _ _) ?_
  refine x_val (rfl : nI (1 * 10) = nI 10) ?_
  refine x_istore_n [(2, .int (nI 10)), (0, .ref a), (1, .int (nI n))] dX5_writesNumber_14 rfl (by decide) rfl ?_
  refine x_goto 2 dX5_writesNumber_15 (by decide) ?_
  refine x_iload_n dX5_writesNumber_2 rfl rfl ?_
  refine x_iload_n dX5_writesNumber_3 rfl rfl ?_
  refine x_idiv dX5_writesNumber_4 (by decide) ?_
  refine x_val (pk_div (by omega) (by decide) (by decide)) ?_
  refine x_bipush (nI 9) dX5_writesNumber_5 (by decide) ?_
  refine x_icmp_le 18 dX5_writesNumber_7 (by decide) (fun z => False.elim (by rw [nI_leI (by omega) (by decide)] at z; omega)) (fun _ => ?_)
  refine x_iload_n dX5_writesNumber_10 rfl rfl ?_
  refine x_bipush (nI 10) dX5_writesNumber_11 (by decide) ?_
  refine x_imul dX5_writesNumber_13 ?_
  refine x_val (pk_mul _ _) ?_
  refine x_val (rfl : nI (10 * 10) = nI 100) ?_
  refine x_istore_n [(2, .int (nI 100)), (0, .ref a), (1, .int (nI n))] dX5_writesNumber_14 rfl (by decide) rfl ?_
  refine x_goto 2 dX5_writesNumber_15 (by decide) ?_
  refine x_iload_n dX5_writesNumber_2 rfl rfl ?_
  refine x_iload_n dX5_writesNumber_3 rfl rfl ?_
  refine x_idiv dX5_writesNumber_4 (by decide) ?_
  refine x_val (pk_div (by omega) (by decide) (by decide)) ?_
  refine x_bipush (nI 9) dX5_writesNumber_5 (by decide) ?_
  refine x_icmp_le 18 dX5_writesNumber_7 (by decide) (fun z => False.elim (by rw [nI_leI (by omega) (by decide)] at z; omega)) (fun _ => ?_)
  refine x_iload_n dX5_writesNumber_10 rfl rfl ?_
  refine x_bipush (nI 10) dX5_writesNumber_11 (by decide) ?_
  refine x_imul dX5_writesNumber_13 ?_
  refine x_val (pk_mul _ _) ?_
  refine x_val (rfl : nI (100 * 10) = nI 1000) ?_
  refine x_istore_n [(2, .int (nI 1000)), (0, .ref a), (1, .int (nI n))] dX5_writesNumber_14 rfl (by decide) rfl ?_
  refine x_goto 2 dX5_writesNumber_15 (by decide) ?_
  refine x_iload_n dX5_writesNumber_2 rfl rfl ?_
  refine x_iload_n dX5_writesNumber_3 rfl rfl ?_
  refine x_idiv dX5_writesNumber_4 (by decide) ?_
  refine x_val (pk_div (by omega) (by decide) (by decide)) ?_
  refine x_bipush (nI 9) dX5_writesNumber_5 (by decide) ?_
  refine x_icmp_le 18 dX5_writesNumber_7 (by decide) (fun _ => ?_) (fun z => False.elim (z ((nI_leI (by omega) (by decide)).mpr (by omega))))
  refine x_iload_n dX5_writesNumber_18 rfl rfl ?_
  refine x_if_le 43 dX5_writesNumber_19 (by decide) (fun z => False.elim (by revert z; decide)) (fun _ => ?_)
  refine x_aload_n dX5_writesNumber_22 rfl rfl ?_
  refine x_bipush (nI 48) dX5_writesNumber_23 (by decide) ?_
  refine x_iload_n dX5_writesNumber_25 rfl rfl ?_
  refine x_iload_n dX5_writesNumber_26 rfl rfl ?_
  refine x_idiv dX5_writesNumber_27 (by decide) ?_
  refine x_val (pk_div (by omega) (by decide) (by decide)) ?_
  refine x_bipush (nI 10) dX5_writesNumber_28 (by decide) ?_
  refine x_irem dX5_writesNumber_30 (by decide) ?_
  refine x_val (pk_rem (by omega) (by decide) (by decide)) ?_
  refine x_iadd dX5_writesNumber_31 ?_
  refine x_val (nI_add _ _) ?_
  refine x_cVV (t_writes (k := (48 + (n / 1000 % 10))) T (by omega) (by first | omega | (simp only [List.length_append, List.length_singleton]; omega))) okX5_writes clX5 q2366 q2368 qs50 dX5_writesNumber_32 (Or.inl T.1) rfl rfl (by decide) (Nat.zero_le _) (Nat.zero_le _) (Nat.le_of_ble_eq_true rfl) (fun _ => ?_)
  refine x_iload_n dX5_writesNumber_35 rfl rfl ?_
  refine x_bipush (nI 10) dX5_writesNumber_36 (by decide) ?_
  refine x_idiv dX5_writesNumber_38 (by decide) ?_
  refine x_val (rfl : nI 1000 / nI 10 = nI 100) ?_
  refine x_istore_n [(2, .int (nI 100)), (0, .ref a), (1, .int (nI n))] dX5_writesNumber_39 rfl (by decide) rfl ?_
  refine x_goto 18 dX5_writesNumber_40 (by decide) ?_
  refine x_iload_n dX5_writesNumber_18 rfl rfl ?_
  refine x_if_le 43 dX5_writesNumber_19 (by decide) (fun z => False.elim (by revert z; decide)) (fun _ => ?_)
  refine x_aload_n dX5_writesNumber_22 rfl rfl ?_
  refine x_bipush (nI 48) dX5_writesNumber_23 (by decide) ?_
  refine x_iload_n dX5_writesNumber_25 rfl rfl ?_
  refine x_iload_n dX5_writesNumber_26 rfl rfl ?_
  refine x_idiv dX5_writesNumber_27 (by decide) ?_
  refine x_val (pk_div (by omega) (by decide) (by decide)) ?_
  refine x_bipush (nI 10) dX5_writesNumber_28 (by decide) ?_
  refine x_irem dX5_writesNumber_30 (by decide) ?_
  refine x_val (pk_rem (by omega) (by decide) (by decide)) ?_
  refine x_iadd dX5_writesNumber_31 ?_
  refine x_val (nI_add _ _) ?_
  refine x_cVV (t_writes (k := (48 + (n / 100 % 10))) T (by omega) (by first | omega | (simp only [List.length_append, List.length_singleton]; omega))) okX5_writes clX5 q2366 q2368 qs50 dX5_writesNumber_32 (Or.inl T.1) rfl rfl (by decide) (Nat.zero_le _) (Nat.zero_le _) (Nat.le_of_ble_eq_true rfl) (fun _ => ?_)
  refine x_iload_n dX5_writesNumber_35 rfl rfl ?_
  refine x_bipush (nI 10) dX5_writesNumber_36 (by decide) ?_
  refine x_idiv dX5_writesNumber_38 (by decide) ?_
  refine x_val (rfl : nI 100 / nI 10 = nI 10) ?_
  refine x_istore_n [(2, .int (nI 10)), (0, .ref a), (1, .int (nI n))] dX5_writesNumber_39 rfl (by decide) rfl ?_
  refine x_goto 18 dX5_writesNumber_40 (by decide) ?_
  refine x_iload_n dX5_writesNumber_18 rfl rfl ?_
  refine x_if_le 43 dX5_writesNumber_19 (by decide) (fun z => False.elim (by revert z; decide)) (fun _ => ?_)
  refine x_aload_n dX5_writesNumber_22 rfl rfl ?_
  refine x_bipush (nI 48) dX5_writesNumber_23 (by decide) ?_
  refine x_iload_n dX5_writesNumber_25 rfl rfl ?_
  refine x_iload_n dX5_writesNumber_26 rfl rfl ?_
  refine x_idiv dX5_writesNumber_27 (by decide) ?_
  refine x_val (pk_div (by omega) (by decide) (by decide)) ?_
  refine x_bipush (nI 10) dX5_writesNumber_28 (by decide) ?_
  refine x_irem dX5_writesNumber_30 (by decide) ?_
  refine x_val (pk_rem (by omega) (by decide) (by decide)) ?_
  refine x_iadd dX5_writesNumber_31 ?_
  refine x_val (nI_add _ _) ?_
  refine x_cVV (t_writes (k := (48 + (n / 10 % 10))) T (by omega) (by first | omega | (simp only [List.length_append, List.length_singleton]; omega))) okX5_writes clX5 q2366 q2368 qs50 dX5_writesNumber_32 (Or.inl T.1) rfl rfl (by decide) (Nat.zero_le _) (Nat.zero_le _) (Nat.le_of_ble_eq_true rfl) (fun _ => ?_)
  refine x_iload_n dX5_writesNumber_35 rfl rfl ?_
  refine x_bipush (nI 10) dX5_writesNumber_36 (by decide) ?_
  refine x_idiv dX5_writesNumber_38 (by decide) ?_
  refine x_val (rfl : nI 10 / nI 10 = nI 1) ?_
  refine x_istore_n [(2, .int (nI 1)), (0, .ref a), (1, .int (nI n))] dX5_writesNumber_39 rfl (by decide) rfl ?_
  refine x_goto 18 dX5_writesNumber_40 (by decide) ?_
  refine x_iload_n dX5_writesNumber_18 rfl rfl ?_
  refine x_if_le 43 dX5_writesNumber_19 (by decide) (fun z => False.elim (by revert z; decide)) (fun _ => ?_)
  refine x_aload_n dX5_writesNumber_22 rfl rfl ?_
  refine x_bipush (nI 48) dX5_writesNumber_23 (by decide) ?_
  refine x_iload_n dX5_writesNumber_25 rfl rfl ?_
  refine x_iload_n dX5_writesNumber_26 rfl rfl ?_
  refine x_idiv dX5_writesNumber_27 (by decide) ?_
  refine x_val (pk_div (by omega) (by decide) (by decide)) ?_
  refine x_bipush (nI 10) dX5_writesNumber_28 (by decide) ?_
  refine x_irem dX5_writesNumber_30 (by decide) ?_
  refine x_val (pk_rem (by omega) (by decide) (by decide)) ?_
  refine x_iadd dX5_writesNumber_31 ?_
  refine x_val (nI_add _ _) ?_
  refine x_cVV (t_writes (k := (48 + (n / 1 % 10))) T (by omega) (by first | omega | (simp only [List.length_append, List.length_singleton]; omega))) okX5_writes clX5 q2366 q2368 qs50 dX5_writesNumber_32 (Or.inl T.1) rfl rfl (by decide) (Nat.zero_le _) (Nat.zero_le _) (Nat.le_of_ble_eq_true rfl) (fun _ => ?_)
  refine x_iload_n dX5_writesNumber_35 rfl rfl ?_
  refine x_bipush (nI 10) dX5_writesNumber_36 (by decide) ?_
  refine x_idiv dX5_writesNumber_38 (by decide) ?_
  refine x_val (rfl : nI 1 / nI 10 = nI 0) ?_
  refine x_istore_n [(2, .int (nI 0)), (0, .ref a), (1, .int (nI n))] dX5_writesNumber_39 rfl (by decide) rfl ?_
  refine x_goto 18 dX5_writesNumber_40 (by decide) ?_
  refine x_iload_n dX5_writesNumber_18 rfl rfl ?_
  refine x_if_le 43 dX5_writesNumber_19 (by decide) (fun _ => ?_) (fun z => False.elim (by revert z; decide))
  refine x_vret rfl dX5_writesNumber_43 ?_
  refine rV_of2 ?_
  rw [show dg n = _ from hdg]
  simp only [List.append_assoc, List.cons_append, List.nil_append, dgc]
theorem t_wN5 {G : GG} {h : AH} {a : Nat} {g : Nat → Int32} {S : Nat → Nat → Int32} {V : Nat → Int32} (T : Tw h a) {l : List Int32} {n : Nat} (h1 : 10000 ≤ n) (h2 : n < 100000) (hl : l.length + 5 ≤ 60) : Cal G kX5_writesNumber 1 0 0 [.ref a, .int (nI n)] (lnH h a g S V l) (rV (lnH h a g S V (l ++ dg n))) := by
  refine Cal.of (by decide +kernel) (Nat.le_of_ble_eq_true rfl) (fun c => ?_)
  have hdg : dg n = [dgc n 10000, dgc n 1000, dgc n 100, dgc n 10, dgc n 1] := by
    unfold dg
    rw [if_neg (by omega), if_neg (by omega), if_neg (by omega), if_neg (by omega)]
  refine x_iconst (nI 1) dX5_writesNumber_0 (by decide) ?_
  refine x_istore_n [(2, .int (nI 1)), (0, .ref a), (1, .int (nI n))] dX5_writesNumber_1 rfl (by decide) rfl ?_
  refine x_iload_n dX5_writesNumber_2 rfl rfl ?_
  refine x_iload_n dX5_writesNumber_3 rfl rfl ?_
  refine x_idiv dX5_writesNumber_4 (by decide) ?_
  refine x_val (pk_div (by omega) (by decide) (by decide)) ?_
  refine x_bipush (nI 9) dX5_writesNumber_5 (by decide) ?_
  refine x_icmp_le 18 dX5_writesNumber_7 (by decide) (fun z => False.elim (by rw [nI_leI (by omega) (by decide)] at z; omega)) (fun _ => ?_)
  refine x_iload_n dX5_writesNumber_10 rfl rfl ?_
  refine x_bipush (nI 10) dX5_writesNumber_11 (by decide) ?_
  refine x_imul dX5_writesNumber_13 ?_
  refine x_val (pk_mul _ _) ?_
  refine x_val (rfl : nI (1 * 10) = nI 10) ?_
  refine x_istore_n [(2, .int (nI 10)), (0, .ref a), (1, .int (nI n))] dX5_writesNumber_14 rfl (by decide) rfl ?_
  refine x_goto 2 dX5_writesNumber_15 (by decide) ?_
  refine x_iload_n dX5_writesNumber_2 rfl rfl ?_
  refine x_iload_n dX5_writesNumber_3 rfl rfl ?_
  refine x_idiv dX5_writesNumber_4 (by decide) ?_
  refine x_val (pk_div (by omega) (by decide) (by decide)) ?_
  refine x_bipush (nI 9) dX5_writesNumber_5 (by decide) ?_
  refine x_icmp_le 18 dX5_writesNumber_7 (by decide) (fun z => False.elim (by rw [nI_leI (by omega) (by decide)] at z; omega)) (fun _ => ?_)
  refine x_iload_n dX5_writesNumber_10 rfl rfl ?_
  refine x_bipush (nI 10) dX5_writesNumber_11 (by decide) ?_
  refine x_imul dX5_writesNumber_13 ?_
  refine x_val (pk_mul _ _) ?_
  refine x_val (rfl : nI (10 * 10) = nI 100) ?_
  refine x_istore_n [(2, .int (nI 100)), (0, .ref a), (1, .int (nI n))] dX5_writesNumber_14 rfl (by decide) rfl ?_
  refine x_goto 2 dX5_writesNumber_15 (by decide) ?_
  refine x_iload_n dX5_writesNumber_2 rfl rfl ?_
  refine x_iload_n dX5_writesNumber_3 rfl rfl ?_
  refine x_idiv dX5_writesNumber_4 (by decide) ?_
  refine x_val (pk_div (by omega) (by decide) (by decide)) ?_
  refine x_bipush (nI 9) dX5_writesNumber_5 (by decide) ?_
  refine x_icmp_le 18 dX5_writesNumber_7 (by decide) (fun z => False.elim (by rw [nI_leI (by omega) (by decide)] at z; omega)) (fun _ => ?_)
  refine x_iload_n dX5_writesNumber_10 rfl rfl ?_
  refine x_bipush (nI 10) dX5_writesNumber_11 (by decide) ?_
  refine x_imul dX5_writesNumber_13 ?_
  refine x_val (pk_mul _ _) ?_
  refine x_val (rfl : nI (100 * 10) = nI 1000) ?_
  refine x_istore_n [(2, .int (nI 1000)), (0, .ref a), (1, .int (nI n))] dX5_writesNumber_14 rfl (by decide) rfl ?_
  refine x_goto 2 dX5_writesNumber_15 (by decide) ?_
  refine x_iload_n dX5_writesNumber_2 rfl rfl ?_
  refine x_iload_n dX5_writesNumber_3 rfl rfl ?_
  refine x_idiv dX5_writesNumber_4 (by decide) ?_
  refine x_val (pk_div (by omega) (by decide) (by decide)) ?_
  refine x_bipush (nI 9) dX5_writesNumber_5 (by decide) ?_
  refine x_icmp_le 18 dX5_writesNumber_7 (by decide) (fun z => False.elim (by rw [nI_leI (by omega) (by decide)] at z; omega)) (fun _ => ?_)
  refine x_iload_n dX5_writesNumber_10 rfl rfl ?_
  refine x_bipush (nI 10) dX5_writesNumber_11 (by decide) ?_
  refine x_imul dX5_writesNumber_13 ?_
  refine x_val (pk_mul _ _) ?_
  refine x_val (rfl : nI (1000 * 10) = nI 10000) ?_
  refine x_istore_n [(2, .int (nI 10000)), (0, .ref a), (1, .int (nI n))] dX5_writesNumber_14 rfl (by decide) rfl ?_
  refine x_goto 2 dX5_writesNumber_15 (by decide) ?_
  refine x_iload_n dX5_writesNumber_2 rfl rfl ?_
  refine x_iload_n dX5_writesNumber_3 rfl rfl ?_
  refine x_idiv dX5_writesNumber_4 (by decide) ?_
  refine x_val (pk_div (by omega) (by decide) (by decide)) ?_
  refine x_bipush (nI 9) dX5_writesNumber_5 (by decide) ?_
  refine x_icmp_le 18 dX5_writesNumber_7 (by decide) (fun _ => ?_) (fun z => False.elim (z ((nI_leI (by omega) (by decide)).mpr (by omega))))
  refine x_iload_n dX5_writesNumber_18 rfl rfl ?_
  refine x_if_le 43 dX5_writesNumber_19 (by decide) (fun z => False.elim (by revert z; decide)) (fun _ => ?_)
  refine x_aload_n dX5_writesNumber_22 rfl rfl ?_
  refine x_bipush (nI 48) dX5_writesNumber_23 (by decide) ?_
  refine x_iload_n dX5_writesNumber_25 rfl rfl ?_
  refine x_iload_n dX5_writesNumber_26 rfl rfl ?_
  refine x_idiv dX5_writesNumber_27 (by decide) ?_
  refine x_val (pk_div (by omega) (by decide) (by decide)) ?_
  refine x_bipush (nI 10) dX5_writesNumber_28 (by decide) ?_
  refine x_irem dX5_writesNumber_30 (by decide) ?_
  refine x_val (pk_rem (by omega) (by decide) (by decide)) ?_
  refine x_iadd dX5_writesNumber_31 ?_
  refine x_val (nI_add _ _) ?_
  refine x_cVV (t_writes (k := (48 + (n / 10000 % 10))) T (by omega) (by first | omega | (simp only [List.length_append, List.length_singleton]; omega))) okX5_writes clX5 q2366 q2368 qs50 dX5_writesNumber_32 (Or.inl T.1) rfl rfl (by decide) (Nat.zero_le _) (Nat.zero_le _) (Nat.le_of_ble_eq_true rfl) (fun _ => ?_)
  refine x_iload_n dX5_writesNumber_35 rfl rfl ?_
  refine x_bipush (nI 10) dX5_writesNumber_36 (by decide) ?_
  refine x_idiv dX5_writesNumber_38 (by decide) ?_
  refine x_val (rfl : nI 10000 / nI 10 = nI 1000) ?_
  refine x_istore_n [(2, .int (nI 1000)), (0, .ref a), (1, .int (nI n))] dX5_writesNumber_39 rfl (by decide) rfl ?_
  refine x_goto 18 dX5_writesNumber_40 (by decide) ?_
  refine x_iload_n dX5_writesNumber_18 rfl rfl ?_
  refine x_if_le 43 dX5_writesNumber_19 (by decide) (fun z => False.elim (by revert z; decide)) (fun _ => ?_)
  refine x_aload_n dX5_writesNumber_22 rfl rfl ?_
  refine x_bipush (nI 48) dX5_writesNumber_23 (by decide) ?_
  refine x_iload_n dX5_writesNumber_25 rfl rfl ?_
  refine x_iload_n dX5_writesNumber_26 rfl rfl ?_
  refine x_idiv dX5_writesNumber_27 (by decide) ?_
  refine x_val (pk_div (by omega) (by decide) (by decide)) ?_
  refine x_bipush (nI 10) dX5_writesNumber_28 (by decide) ?_
  refine x_irem dX5_writesNumber_30 (by decide) ?_
  refine x_val (pk_rem (by omega) (by decide) (by decide)) ?_
  refine x_iadd dX5_writesNumber_31 ?_
  refine x_val (nI_add _ _) ?_
  refine x_cVV (t_writes (k := (48 + (n / 1000 % 10))) T (by omega) (by first | omega | (simp only [List.length_append, List.length_singleton]; omega))) okX5_writes clX5 q2366 q2368 qs50 dX5_writesNumber_32 (Or.inl T.1) rfl rfl (by decide) (Nat.zero_le _) (Nat.zero_le _) (Nat.le_of_ble_eq_true rfl) (fun _ => ?_)
  refine x_iload_n dX5_writesNumber_35 rfl rfl ?_
  refine x_bipush (nI 10) dX5_writesNumber_36 (by decide) ?_
  refine x_idiv dX5_writesNumber_38 (by decide) ?_
  refine x_val (rfl : nI 1000 / nI 10 = nI 100) ?_
  refine x_istore_n [(2, .int (nI 100)), (0, .ref a), (1, .int (nI n))] dX5_writesNumber_39 rfl (by decide) rfl ?_
  refine x_goto 18 dX5_writesNumber_40 (by decide) ?_
  refine x_iload_n dX5_writesNumber_18 rfl rfl ?_
  refine x_if_le 43 dX5_writesNumber_19 (by decide) (fun z => False.elim (by revert z; decide)) (fun _ => ?_)
  refine x_aload_n dX5_writesNumber_22 rfl rfl ?_
  refine x_bipush (nI 48) dX5_writesNumber_23 (by decide) ?_
  refine x_iload_n dX5_writesNumber_25 rfl rfl ?_
  refine x_iload_n dX5_writesNumber_26 rfl rfl ?_
  refine x_idiv dX5_writesNumber_27 (by decide) ?_
  refine x_val (pk_div (by omega) (by decide) (by decide)) ?_
  refine x_bipush (nI 10) dX5_writesNumber_28 (by decide) ?_
  refine x_irem dX5_writesNumber_30 (by decide) ?_
  refine x_val (pk_rem (by omega) (by decide) (by decide)) ?_
  refine x_iadd dX5_writesNumber_31 ?_
  refine x_val (nI_add _ _) ?_
  refine x_cVV (t_writes (k := (48 + (n / 100 % 10))) T (by omega) (by first | omega | (simp only [List.length_append, List.length_singleton]; omega))) okX5_writes clX5 q2366 q2368 qs50 dX5_writesNumber_32 (Or.inl T.1) rfl rfl (by decide) (Nat.zero_le _) (Nat.zero_le _) (Nat.le_of_ble_eq_true rfl) (fun _ => ?_)
  refine x_iload_n dX5_writesNumber_35 rfl rfl ?_
  refine x_bipush (nI 10) dX5_writesNumber_36 (by decide) ?_
  refine x_idiv dX5_writesNumber_38 (by decide) ?_
  refine x_val (rfl : nI 100 / nI 10 = nI 10) ?_
  refine x_istore_n [(2, .int (nI 10)), (0, .ref a), (1, .int (nI n))] dX5_writesNumber_39 rfl (by decide) rfl ?_
  refine x_goto 18 dX5_writesNumber_40 (by decide) ?_
  refine x_iload_n dX5_writesNumber_18 rfl rfl ?_
  refine x_if_le 43 dX5_writesNumber_19 (by decide) (fun z => False.elim (by revert z; decide)) (fun _ => ?_)
  refine x_aload_n dX5_writesNumber_22 rfl rfl ?_
  refine x_bipush (nI 48) dX5_writesNumber_23 (by decide) ?_
  refine x_iload_n dX5_writesNumber_25 rfl rfl ?_
  refine x_iload_n dX5_writesNumber_26 rfl rfl ?_
  refine x_idiv dX5_writesNumber_27 (by decide) ?_
  refine x_val (pk_div (by omega) (by decide) (by decide)) ?_
  refine x_bipush (nI 10) dX5_writesNumber_28 (by decide) ?_
  refine x_irem dX5_writesNumber_30 (by decide) ?_
  refine x_val (pk_rem (by omega) (by decide) (by decide)) ?_
  refine x_iadd dX5_writesNumber_31 ?_
  refine x_val (nI_add _ _) ?_
  refine x_cVV (t_writes (k := (48 + (n / 10 % 10))) T (by omega) (by first | omega | (simp only [List.length_append, List.length_singleton]; omega))) okX5_writes clX5 q2366 q2368 qs50 dX5_writesNumber_32 (Or.inl T.1) rfl rfl (by decide) (Nat.zero_le _) (Nat.zero_le _) (Nat.le_of_ble_eq_true rfl) (fun _ => ?_)
  refine x_iload_n dX5_writesNumber_35 rfl rfl ?_
  refine x_bipush (nI 10) dX5_writesNumber_36 (by decide) ?_
  refine x_idiv dX5_writesNumber_38 (by decide) ?_
  refine x_val (rfl : nI 10 / nI 10 = nI 1) ?_
  refine x_istore_n [(2, .int (nI 1)), (0, .ref a), (1, .int (nI n))] dX5_writesNumber_39 rfl (by decide) rfl ?_
  refine x_goto 18 dX5_writesNumber_40 (by decide) ?_
  refine x_iload_n dX5_writesNumber_18 rfl rfl ?_
  refine x_if_le 43 dX5_writesNumber_19 (by decide) (fun z => False.elim (by revert z; decide)) (fun _ => ?_)
  refine x_aload_n dX5_writesNumber_22 rfl rfl ?_
  refine x_bipush (nI 48) dX5_writesNumber_23 (by decide) ?_
  refine x_iload_n dX5_writesNumber_25 rfl rfl ?_
  refine x_iload_n dX5_writesNumber_26 rfl rfl ?_
  refine x_idiv dX5_writesNumber_27 (by decide) ?_
  refine x_val (pk_div (by omega) (by decide) (by decide)) ?_
  refine x_bipush (nI 10) dX5_writesNumber_28 (by decide) ?_
  refine x_irem dX5_writesNumber_30 (by decide) ?_
  refine x_val (pk_rem (by omega) (by decide) (by decide)) ?_
  refine x_iadd dX5_writesNumber_31 ?_
  refine x_val (nI_add _ _) ?_
  refine x_cVV (t_writes (k := (48 + (n / 1 % 10))) T (by omega) (by first | omega | (simp only [List.length_append, List.length_singleton]; omega))) okX5_writes clX5 q2366 q2368 qs50 dX5_writesNumber_32 (Or.inl T.1) rfl rfl (by decide) (Nat.zero_le _) (Nat.zero_le _) (Nat.le_of_ble_eq_true rfl) (fun _ => ?_)
  refine x_iload_n dX5_writesNumber_35 rfl rfl ?_
  refine x_bipush (nI 10) dX5_writesNumber_36 (by decide) ?_
  refine x_idiv dX5_writesNumber_38 (by decide) ?_
  refine x_val (rfl : nI 1 / nI 10 = nI 0) ?_
  refine x_istore_n [(2, .int (nI 0)), (0, .ref a), (1, .int (nI n))] dX5_writesNumber_39 rfl (by decide) rfl ?_
  refine x_goto 18 dX5_writesNumber_40 (by decide) ?_
  refine x_iload_n dX5_writesNumber_18 rfl rfl ?_
  refine x_if_le 43 dX5_writesNumber_19 (by decide) (fun _ => ?_) (fun z => False.elim (by revert z; decide))
  refine x_vret rfl dX5_writesNumber_43 ?_
  refine rV_of2 ?_
  rw [show dg n = _ from hdg]
  simp only [List.append_assoc, List.cons_append, List.nil_append, dgc]
theorem t_writesNumber {G : GG} {h : AH} {a : Nat} {g : Nat → Int32} {S : Nat → Nat → Int32} {V : Nat → Int32} (T : Tw h a) {l : List Int32} {n : Nat} (hn : n < 100000) (hl : l.length + 5 ≤ 60) : Cal G kX5_writesNumber 1 0 0 [.ref a, .int (nI n)] (lnH h a g S V l) (rV (lnH h a g S V (l ++ dg n))) := by
  by_cases c1 : n < 10
  · exact t_wN1 T (by omega) c1 (by omega)
  by_cases c2 : n < 100
  · exact t_wN2 T (by omega) c2 (by omega)
  by_cases c3 : n < 1000
  · exact t_wN3 T (by omega) c3 (by omega)
  by_cases c4 : n < 10000
  · exact t_wN4 T (by omega) c4 (by omega)
  exact t_wN5 T (by omega) hn (by omega)
theorem t_writesText {G : GG} {h : AH} {a : Nat} {g : Nat → Int32} {S : Nat → Nat → Int32} {V : Nat → Int32} (T : Tw h a) (SG : GSt G) {l : List Int32} {i : Nat} (hi : i < 26) (hl : l.length + (txl i).length ≤ 60) : Cal G kX5_writesText 4 0 0 [.ref a, .ref (gS G i)] (lnH h a g S V l) (rV (lnH h a g S V (l ++ txl i))) := by
  refine Cal.of (by decide +kernel) (Nat.le_of_ble_eq_true rfl) (fun c => ?_)
  refine x_iconst (nI 0) dX5_writesText_0 (by decide) ?_
  refine x_istore_n [(2, .int (nI 0)), (0, .ref a), (1, .ref (gS G i))] dX5_writesText_1 rfl (by decide) rfl ?_
  refine x_eq (h' := lnH h a g S V (l ++ (txl i).take 0)) (by rw [List.take_zero, List.append_nil]) rfl rfl ?_
  refine x_sub [1, 2, 0] (lv' := [(0, .ref a), (1, .ref (gS G i)), (2, .int (nI 0))]) rfl ?_
  refine x_bud (bc' := 0) (bs' := 0) (by first | exact Nat.zero_le _ | omega) (by first | exact Nat.zero_le _ | omega) ?_
  refine lpN (P := fun k => X G c kX5_writesText 4 _ _ _ 0 0 (twh h a g (upS S 7 (wrs (S 7) (l ++ (txl i).take k))) (upd V 40 (nI (l ++ (txl i).take k).length))) 2 [(0, .ref a), (1, .ref (gS G i)), (2, .int (nI k))] []) ((txl i).length) (fun k hk ih => ?_) 0 (Nat.zero_le _)
  refine x_wf (fun w => ?_)
  have S0 := SG.str w hi
  have hlt : (l ++ (txl i).take k).length = l.length + k := by rw [List.length_append, List.length_take]; omega
  refine x_iload_n dX5_writesText_2 rfl rfl ?_
  refine x_aload_n dX5_writesText_3 rfl rfl ?_
  refine x_cVI (s_length S0) okJ6_length clJ6 q2379 q587 q588 dX5_writesText_4 S0.1 rfl rfl (by decide) (Nat.zero_le _) (Nat.zero_le _) (Nat.le_of_ble_eq_true rfl) (fun _ => ?_)
  refine x_icmp_ge 25 dX5_writesText_7 (by decide) (fun e1 => ?_) (fun e1 => ?_)
  · skip
    have ne1 := e1
    rw [nI_leI (by omega) (by omega)] at ne1
    refine x_vret rfl dX5_writesText_25 ?_
    exact rV_of2 (by rw [show k = (txl i).length by omega, List.take_length])
  · skip
    have ne1 := e1
    rw [nI_leI (by omega) (by omega)] at ne1
    refine x_aload_n dX5_writesText_10 rfl rfl ?_
    refine x_aload_n dX5_writesText_11 rfl rfl ?_
    refine x_iload_n dX5_writesText_12 rfl rfl ?_
    obtain ⟨c0, hc, hc0⟩ := S0.2.2.2.2 ((txl i).getD k 0) (by rw [List.getD_eq_getElem?_getD, List.getElem?_eq_getElem (by omega)]; exact List.getElem_mem (by omega))
    refine x_cVI (s_charAt S0 (by omega)) okJ6_charAt clJ6 q2380 q425 q426 dX5_writesText_13 S0.1 rfl rfl (by decide) (Nat.zero_le _) (Nat.zero_le _) (Nat.le_of_ble_eq_true rfl) (fun _ => ?_)
    refine x_val hc ?_
    refine x_cVV (t_writes (k := c0) T hc0 (by rw [hlt]; omega)) okX5_writes clX5 q2366 q2368 qs50 dX5_writesText_16 (Or.inl T.1) rfl rfl (by decide) (Nat.zero_le _) (Nat.zero_le _) (Nat.le_of_ble_eq_true rfl) (fun _ => ?_)
    refine x_iinc (j := 2) (nI (k + 1)) [(2, .int (nI (k + 1))), (0, .ref a), (1, .ref (gS G i))] dX5_writesText_19 rfl (by first | exact nI_add _ _ | decide) (by decide) rfl ?_
    refine x_goto 2 dX5_writesText_22 (by decide) ?_
    refine x_sub [1, 2, 0] (lv' := [(0, .ref a), (1, .ref (gS G i)), (2, .int (nI (k + 1)))]) rfl ?_
    refine x_eq (h' := lnH h a g S V (l ++ (txl i).take (k + 1))) (by rw [take_up (by omega), hc, List.append_assoc]) rfl rfl ?_
    exact ih (by omega)
def howT (g : Nat → Int32) (j : Nat) : Nat := if gj g j 0 = 1 then 9 else if gj g j 0 = 2 then 17 else if isRipe g j = true then 18 else 19
/-- the line of a jar -/
def lineL (g : Nat → Int32) (j : Nat) : List Int32 := [] ++ [nI 106] ++ dg j ++ txl 21 ++ dg (ofB g j) ++ txl 22 ++ dg (ix (gj g j 2)) ++ txl 23 ++ txl (howT g j) ++ txl 22 ++ dg (ix (tearOf g j))
theorem how_le (g : Nat → Int32) (j : Nat) : (txl (howT g j)).length ≤ 7 := by
  unfold howT
  split
  · decide
  · split
    · decide
    · split <;> decide
theorem lineL_le (g : Nat → Int32) (j : Nat) : (lineL g j).length ≤ 60 := by
  have h1 := dg_le j
  have h2 := dg_le (ofB g j)
  have h3 := dg_le (ix (gj g j 2))
  have h4 := dg_le (ix (tearOf g j))
  have h5 := how_le g j
  have t1 : (txl 21).length = 4 := rfl
  have t2 : (txl 22).length = 2 := rfl
  have t3 : (txl 23).length = 3 := rfl
  unfold lineL
  simp only [List.length_append, List.length_cons, List.length_nil]
  omega
def sp_line (g : Nat → Int32) (x : Int32) : Nat × Int32 := if inB x 0 (g 8 - 1) = false then (1, 0) else (0, nI (lineL g (ix x)).length)
/-- the reference behind line -/
def twL (h : AH) (a : Nat) (g : Nat → Int32) (S : Nat → Nat → Int32) (V : Nat → Int32) (x : Int32) : AH :=
  match (sp_line g x).1 with
  | 0 => lnH h a g S (upd V 34 (nI 0)) (lineL g (ix x))
  | _ => twh h a g S (upd V 34 (nI 1))
/-- what the lines ask of a jar's numbers -/
def JNum (g : Nat → Int32) (j : Nat) : Prop := (gj g j 1 = nI (ofB g j) ∧ ofB g j < nBt g ∧ ofB g j < 12) ∧ gj g j 2 = nI (ix (gj g j 2)) ∧ ix (gj g j 2) < 100000 ∧ tearOf g j = nI (ix (tearOf g j)) ∧ ix (tearOf g j) < 100000
theorem t_line {G : GG} {h : AH} {a : Nat} {g : Nat → Int32} {S : Nat → Nat → Int32} {V : Nat → Int32} (T : Tw h a) (O : GOk g) (SG : GSt G) (hjn : ∀ j, j < nJr g → JNum g j) {x : Int32} : Cal G kX5_line 5 0 0 [.ref a, .int x] (twh h a g S V) (rI (sp_line g x).2 (twL h a g S V x)) := by
  refine Cal.of (by decide +kernel) (Nat.le_of_ble_eq_true rfl) (fun c => ?_)
  have hb0 := O.b
  have hj0 := O.j
  have ho0 := O.o
  refine x_aload_n dX5_line_0 rfl rfl ?_
  refine x_aload_n dX5_line_1 rfl rfl ?_
  refine x_iload_n dX5_line_2 rfl rfl ?_
  refine x_cVI (t_isJar T) okX5_isJar clX5 q2247 q2249 qs34 dX5_line_3 (Or.inl T.1) rfl rfl (by decide) (Nat.zero_le _) (Nat.zero_le _) (Nat.le_of_ble_eq_true rfl) (fun _ => ?_)
  refine x_if_eqB 13 dX5_line_6 (by decide) (fun e1 => ?_) (fun e1 => ?_)
  · skip
    refine x_iconst (nI 1) dX5_line_13 (by decide) ?_
    refine x_cVI (t_fails1 T) okX5_fails clX5 q2159 q2161 qs23 dX5_line_14 (Or.inl T.1) rfl rfl (by decide) (Nat.zero_le _) (Nat.zero_le _) (Nat.le_of_ble_eq_true rfl) (fun _ => ?_)
    refine x_if_eq 22 dX5_line_17 (by decide) (fun z => False.elim (by revert z; decide)) (fun _ => ?_)
    refine x_iconst (nI 0) dX5_line_20 (by decide) ?_
    refine x_iret rfl dX5_line_21 ?_
    have hs : sp_line g x = (1, 0) := if_pos (by assumption)
    exact ⟨by rw [hs]; rfl, by unfold twL; rw [hs]; rfl⟩
  · skip
    obtain ⟨k, hk, rfl⟩ := inB_m hj0.1 (by omega) e1
    have xk : (nI k).toNatClampNeg = k := ix_nI (by omega)
    refine x_iconst (nI 0) dX5_line_9 (by decide) ?_
    refine x_goto 14 dX5_line_10 (by decide) ?_
    refine x_cVI (t_fails0 T) okX5_fails clX5 q2159 q2161 qs23 dX5_line_14 (Or.inl T.1) rfl rfl (by decide) (Nat.zero_le _) (Nat.zero_le _) (Nat.le_of_ble_eq_true rfl) (fun _ => ?_)
    refine x_if_eq 22 dX5_line_17 (by decide) (fun _ => ?_) (fun z => False.elim (by revert z; decide))
    refine x_aload_n dX5_line_22 rfl rfl ?_
    refine x_iconst (nI 0) dX5_line_23 (by decide) ?_
    refine tp_signMany T (.inl q2098) dX5_line_24 ?_
    refine x_eq (h' := lnH h a g S (upd V 34 (nI 0)) []) (by show _ = twh h a g (upS S 7 (wrs (S 7) [])) _; rw [wrs_nil, upS_id]; rfl) rfl rfl ?_
    obtain ⟨hof, hre, hre2, hte, hte2⟩ := hjn k hk
    refine x_aload_n dX5_line_27 rfl rfl ?_
    refine x_bipush (nI 106) dX5_line_28 (by decide) ?_
    refine x_cVV (t_writes (k := 106) T (by decide) (by have q1 := dg_le k; have q2 := dg_le (ofB g k); have q3 := dg_le (ix (gj g k 2)); have q4 := dg_le (ix (tearOf g k)); have q5 := how_le g k; simp only [List.length_append, List.length_cons, List.length_nil, show (txl 21).length = 4 from rfl, show (txl 22).length = 2 from rfl, show (txl 23).length = 3 from rfl, show (txl 9).length = 4 from rfl, show (txl 17).length = 4 from rfl, show (txl 18).length = 4 from rfl, show (txl 19).length = 7 from rfl]; omega)) okX5_writes clX5 q2366 q2368 qs50 dX5_line_30 (Or.inl T.1) rfl rfl (by decide) (Nat.zero_le _) (Nat.zero_le _) (Nat.le_of_ble_eq_true rfl) (fun _ => ?_)
    refine x_aload_n dX5_line_33 rfl rfl ?_
    refine x_iload_n dX5_line_34 rfl rfl ?_
    refine x_cVV (t_writesNumber (n := k) T (by omega) (by have q1 := dg_le k; have q2 := dg_le (ofB g k); have q3 := dg_le (ix (gj g k 2)); have q4 := dg_le (ix (tearOf g k)); have q5 := how_le g k; simp only [List.length_append, List.length_cons, List.length_nil, show (txl 21).length = 4 from rfl, show (txl 22).length = 2 from rfl, show (txl 23).length = 3 from rfl, show (txl 9).length = 4 from rfl, show (txl 17).length = 4 from rfl, show (txl 18).length = 4 from rfl, show (txl 19).length = 7 from rfl]; omega)) okX5_writesNumber clX5 q2370 q2372 qs51 dX5_line_35 (Or.inl T.1) rfl rfl (by decide) (Nat.zero_le _) (Nat.zero_le _) (Nat.le_of_ble_eq_true rfl) (fun _ => ?_)
    refine x_aload_n dX5_line_38 rfl rfl ?_
    refine x_ldcS dX5_line_39 (List.mem_of_getElem? (i := 44) rfl) ?_
    refine x_cVV (t_writesText T SG (i := 21) (by decide) (by have q1 := dg_le k; have q2 := dg_le (ofB g k); have q3 := dg_le (ix (gj g k 2)); have q4 := dg_le (ix (tearOf g k)); have q5 := how_le g k; simp only [List.length_append, List.length_cons, List.length_nil, show (txl 21).length = 4 from rfl, show (txl 22).length = 2 from rfl, show (txl 23).length = 3 from rfl, show (txl 9).length = 4 from rfl, show (txl 17).length = 4 from rfl, show (txl 18).length = 4 from rfl, show (txl 19).length = 7 from rfl]; omega)) okX5_writesText clX5 q2375 q2377 qs52 dX5_line_41 (Or.inl T.1) rfl rfl (by decide) (Nat.zero_le _) (Nat.zero_le _) (Nat.le_of_ble_eq_true rfl) (fun _ => ?_)
    refine x_aload_n dX5_line_44 rfl rfl ?_
    refine x_aload_n dX5_line_45 rfl rfl ?_
    refine x_iload_n dX5_line_46 rfl rfl ?_
    refine x_iconst (nI 1) dX5_line_47 (by decide) ?_
    refine x_cVI (t_ofJar T (by omega)) okX5_ofJar clX5 q2251 q2253 qs35 dX5_line_48 (Or.inl T.1) rfl rfl (by decide) (Nat.zero_le _) (Nat.zero_le _) (Nat.le_of_ble_eq_true rfl) (fun _ => ?_)
    refine x_cVV (hof.1.symm ▸ t_writesNumber (n := (ofB g k)) T (by have := hof.2.2; omega) (by have q1 := dg_le k; have q2 := dg_le (ofB g k); have q3 := dg_le (ix (gj g k 2)); have q4 := dg_le (ix (tearOf g k)); have q5 := how_le g k; simp only [List.length_append, List.length_cons, List.length_nil, show (txl 21).length = 4 from rfl, show (txl 22).length = 2 from rfl, show (txl 23).length = 3 from rfl, show (txl 9).length = 4 from rfl, show (txl 17).length = 4 from rfl, show (txl 18).length = 4 from rfl, show (txl 19).length = 7 from rfl]; omega)) okX5_writesNumber clX5 q2370 q2372 qs51 dX5_line_51 (Or.inl T.1) rfl rfl (by decide) (Nat.zero_le _) (Nat.zero_le _) (Nat.le_of_ble_eq_true rfl) (fun _ => ?_)
    refine x_aload_n dX5_line_54 rfl rfl ?_
    refine x_ldcS dX5_line_55 (List.mem_of_getElem? (i := 45) rfl) ?_
    refine x_cVV (t_writesText T SG (i := 22) (by decide) (by have q1 := dg_le k; have q2 := dg_le (ofB g k); have q3 := dg_le (ix (gj g k 2)); have q4 := dg_le (ix (tearOf g k)); have q5 := how_le g k; simp only [List.length_append, List.length_cons, List.length_nil, show (txl 21).length = 4 from rfl, show (txl 22).length = 2 from rfl, show (txl 23).length = 3 from rfl, show (txl 9).length = 4 from rfl, show (txl 17).length = 4 from rfl, show (txl 18).length = 4 from rfl, show (txl 19).length = 7 from rfl]; omega)) okX5_writesText clX5 q2375 q2377 qs52 dX5_line_57 (Or.inl T.1) rfl rfl (by decide) (Nat.zero_le _) (Nat.zero_le _) (Nat.le_of_ble_eq_true rfl) (fun _ => ?_)
    refine x_aload_n dX5_line_60 rfl rfl ?_
    refine x_aload_n dX5_line_61 rfl rfl ?_
    refine x_iload_n dX5_line_62 rfl rfl ?_
    refine x_iconst (nI 2) dX5_line_63 (by decide) ?_
    refine x_cVI (t_ofJar T (by omega)) okX5_ofJar clX5 q2251 q2253 qs35 dX5_line_64 (Or.inl T.1) rfl rfl (by decide) (Nat.zero_le _) (Nat.zero_le _) (Nat.le_of_ble_eq_true rfl) (fun _ => ?_)
    refine x_cVV (hre.symm ▸ t_writesNumber (n := (ix (gj g k 2))) T hre2 (by have q1 := dg_le k; have q2 := dg_le (ofB g k); have q3 := dg_le (ix (gj g k 2)); have q4 := dg_le (ix (tearOf g k)); have q5 := how_le g k; simp only [List.length_append, List.length_cons, List.length_nil, show (txl 21).length = 4 from rfl, show (txl 22).length = 2 from rfl, show (txl 23).length = 3 from rfl, show (txl 9).length = 4 from rfl, show (txl 17).length = 4 from rfl, show (txl 18).length = 4 from rfl, show (txl 19).length = 7 from rfl]; omega)) okX5_writesNumber clX5 q2370 q2372 qs51 dX5_line_67 (Or.inl T.1) rfl rfl (by decide) (Nat.zero_le _) (Nat.zero_le _) (Nat.le_of_ble_eq_true rfl) (fun _ => ?_)
    refine x_aload_n dX5_line_70 rfl rfl ?_
    refine x_ldcS dX5_line_71 (List.mem_of_getElem? (i := 46) rfl) ?_
    refine x_cVV (t_writesText T SG (i := 23) (by decide) (by have q1 := dg_le k; have q2 := dg_le (ofB g k); have q3 := dg_le (ix (gj g k 2)); have q4 := dg_le (ix (tearOf g k)); have q5 := how_le g k; simp only [List.length_append, List.length_cons, List.length_nil, show (txl 21).length = 4 from rfl, show (txl 22).length = 2 from rfl, show (txl 23).length = 3 from rfl, show (txl 9).length = 4 from rfl, show (txl 17).length = 4 from rfl, show (txl 18).length = 4 from rfl, show (txl 19).length = 7 from rfl]; omega)) okX5_writesText clX5 q2375 q2377 qs52 dX5_line_73 (Or.inl T.1) rfl rfl (by decide) (Nat.zero_le _) (Nat.zero_le _) (Nat.le_of_ble_eq_true rfl) (fun _ => ?_)
    refine x_aload_n dX5_line_76 rfl rfl ?_
    refine x_aload_n dX5_line_77 rfl rfl ?_
    refine x_iload_n dX5_line_78 rfl rfl ?_
    refine x_iconst (nI 0) dX5_line_79 (by decide) ?_
    refine x_cVI (t_ofJar T (by omega)) okX5_ofJar clX5 q2251 q2253 qs35 dX5_line_80 (Or.inl T.1) rfl rfl (by decide) (Nat.zero_le _) (Nat.zero_le _) (Nat.le_of_ble_eq_true rfl) (fun _ => ?_)
    refine x_iconst (nI 1) dX5_line_83 (by decide) ?_
    refine x_icmp_ne 92 dX5_line_84 (by decide) (fun e2 => ?_) (fun e2 => ?_)
    · skip
      refine x_aload_n dX5_line_92 rfl rfl ?_
      refine x_iload_n dX5_line_93 rfl rfl ?_
      refine x_iconst (nI 0) dX5_line_94 (by decide) ?_
      refine x_cVI (t_ofJar T (by omega)) okX5_ofJar clX5 q2251 q2253 qs35 dX5_line_95 (Or.inl T.1) rfl rfl (by decide) (Nat.zero_le _) (Nat.zero_le _) (Nat.le_of_ble_eq_true rfl) (fun _ => ?_)
      refine x_iconst (nI 2) dX5_line_98 (by decide) ?_
      refine x_icmp_ne 107 dX5_line_99 (by decide) (fun e3 => ?_) (fun e3 => ?_)
      · skip
        refine x_aload_n dX5_line_107 rfl rfl ?_
        refine x_iload_n dX5_line_108 rfl rfl ?_
        refine x_cVI (t_isRipe T O (by omega) (by omega)) okX5_isRipe clX5 q2322 q2324 qs46 dX5_line_109 (Or.inl T.1) rfl rfl (by decide) (Nat.zero_le _) (Nat.zero_le _) (Nat.le_of_ble_eq_true rfl) (fun _ => ?_)
        refine x_if_eqB 120 dX5_line_112 (by decide) (fun e4 => ?_) (fun e4 => ?_)
        · skip
          refine x_ldcS dX5_line_120 (List.mem_of_getElem? (i := 50) rfl) ?_
          refine x_cVV (t_writesText T SG (i := 19) (by decide) (by have q1 := dg_le k; have q2 := dg_le (ofB g k); have q3 := dg_le (ix (gj g k 2)); have q4 := dg_le (ix (tearOf g k)); have q5 := how_le g k; simp only [List.length_append, List.length_cons, List.length_nil, show (txl 21).length = 4 from rfl, show (txl 22).length = 2 from rfl, show (txl 23).length = 3 from rfl, show (txl 9).length = 4 from rfl, show (txl 17).length = 4 from rfl, show (txl 18).length = 4 from rfl, show (txl 19).length = 7 from rfl]; omega)) okX5_writesText clX5 q2375 q2377 qs52 dX5_line_122 (Or.inl T.1) rfl rfl (by decide) (Nat.zero_le _) (Nat.zero_le _) (Nat.le_of_ble_eq_true rfl) (fun _ => ?_)
          refine x_aload_n dX5_line_125 rfl rfl ?_
          refine x_ldcS dX5_line_126 (List.mem_of_getElem? (i := 45) rfl) ?_
          refine x_cVV (t_writesText T SG (i := 22) (by decide) (by have q1 := dg_le k; have q2 := dg_le (ofB g k); have q3 := dg_le (ix (gj g k 2)); have q4 := dg_le (ix (tearOf g k)); have q5 := how_le g k; simp only [List.length_append, List.length_cons, List.length_nil, show (txl 21).length = 4 from rfl, show (txl 22).length = 2 from rfl, show (txl 23).length = 3 from rfl, show (txl 9).length = 4 from rfl, show (txl 17).length = 4 from rfl, show (txl 18).length = 4 from rfl, show (txl 19).length = 7 from rfl]; omega)) okX5_writesText clX5 q2375 q2377 qs52 dX5_line_128 (Or.inl T.1) rfl rfl (by decide) (Nat.zero_le _) (Nat.zero_le _) (Nat.le_of_ble_eq_true rfl) (fun _ => ?_)
          refine x_aload_n dX5_line_131 rfl rfl ?_
          refine x_aload_n dX5_line_132 rfl rfl ?_
          refine x_iload_n dX5_line_133 rfl rfl ?_
          refine x_cVI (t_tearOf T O (by omega) (by omega)) okX5_tearOf clX5 q2259 q2261 qs37 dX5_line_134 (Or.inl T.1) rfl rfl (by decide) (Nat.zero_le _) (Nat.zero_le _) (Nat.le_of_ble_eq_true rfl) (fun _ => ?_)
          refine x_cVV (hte.symm ▸ t_writesNumber (n := (ix (tearOf g k))) T hte2 (by have q1 := dg_le k; have q2 := dg_le (ofB g k); have q3 := dg_le (ix (gj g k 2)); have q4 := dg_le (ix (tearOf g k)); have q5 := how_le g k; simp only [List.length_append, List.length_cons, List.length_nil, show (txl 21).length = 4 from rfl, show (txl 22).length = 2 from rfl, show (txl 23).length = 3 from rfl, show (txl 9).length = 4 from rfl, show (txl 17).length = 4 from rfl, show (txl 18).length = 4 from rfl, show (txl 19).length = 7 from rfl]; omega)) okX5_writesNumber clX5 q2370 q2372 qs51 dX5_line_137 (Or.inl T.1) rfl rfl (by decide) (Nat.zero_le _) (Nat.zero_le _) (Nat.le_of_ble_eq_true rfl) (fun _ => ?_)
          refine x_aload_n dX5_line_140 rfl rfl ?_
          refine tg_signMany T (.inl q2098) dX5_line_141 ?_
          refine x_iret rfl dX5_line_144 ?_
          have hw : howT g k = 19 := by
            unfold howT
            rw [if_neg (by assumption), if_neg (by assumption), if_neg (by rw [show isRipe g k = false by assumption]; decide)]
          have hL : lineL g k = [] ++ [nI 106] ++ dg k ++ txl 21 ++ dg (ofB g k) ++ txl 22 ++ dg (ix (gj g k 2)) ++ txl 23 ++ txl 19 ++ txl 22 ++ dg (ix (tearOf g k)) := by unfold lineL; rw [hw]
          have hs : sp_line g (nI k) = (0, nI (lineL g k).length) := by
            show (if inB (nI k) 0 (g 8 - 1) = false then ((1 : Nat), (0 : Int32)) else (0, nI (lineL g (nI k).toNatClampNeg).length)) = _
            rw [xk]
            exact if_neg (by rw [e1]; decide)
          have ht : twL h a g S V (nI k) = lnH h a g S (upd V 34 (nI 0)) (lineL g k) := by
            unfold twL
            rw [hs]
            show lnH h a g S (upd V 34 (nI 0)) (lineL g (nI k).toNatClampNeg) = _
            rw [xk]
          rw [hs, ht, hL]
          exact ⟨rfl, rfl⟩
        · skip
          refine x_ldcS dX5_line_115 (List.mem_of_getElem? (i := 49) rfl) ?_
          refine x_goto 122 dX5_line_117 (by decide) ?_
          refine x_cVV (t_writesText T SG (i := 18) (by decide) (by have q1 := dg_le k; have q2 := dg_le (ofB g k); have q3 := dg_le (ix (gj g k 2)); have q4 := dg_le (ix (tearOf g k)); have q5 := how_le g k; simp only [List.length_append, List.length_cons, List.length_nil, show (txl 21).length = 4 from rfl, show (txl 22).length = 2 from rfl, show (txl 23).length = 3 from rfl, show (txl 9).length = 4 from rfl, show (txl 17).length = 4 from rfl, show (txl 18).length = 4 from rfl, show (txl 19).length = 7 from rfl]; omega)) okX5_writesText clX5 q2375 q2377 qs52 dX5_line_122 (Or.inl T.1) rfl rfl (by decide) (Nat.zero_le _) (Nat.zero_le _) (Nat.le_of_ble_eq_true rfl) (fun _ => ?_)
          refine x_aload_n dX5_line_125 rfl rfl ?_
          refine x_ldcS dX5_line_126 (List.mem_of_getElem? (i := 45) rfl) ?_
          refine x_cVV (t_writesText T SG (i := 22) (by decide) (by have q1 := dg_le k; have q2 := dg_le (ofB g k); have q3 := dg_le (ix (gj g k 2)); have q4 := dg_le (ix (tearOf g k)); have q5 := how_le g k; simp only [List.length_append, List.length_cons, List.length_nil, show (txl 21).length = 4 from rfl, show (txl 22).length = 2 from rfl, show (txl 23).length = 3 from rfl, show (txl 9).length = 4 from rfl, show (txl 17).length = 4 from rfl, show (txl 18).length = 4 from rfl, show (txl 19).length = 7 from rfl]; omega)) okX5_writesText clX5 q2375 q2377 qs52 dX5_line_128 (Or.inl T.1) rfl rfl (by decide) (Nat.zero_le _) (Nat.zero_le _) (Nat.le_of_ble_eq_true rfl) (fun _ => ?_)
          refine x_aload_n dX5_line_131 rfl rfl ?_
          refine x_aload_n dX5_line_132 rfl rfl ?_
          refine x_iload_n dX5_line_133 rfl rfl ?_
          refine x_cVI (t_tearOf T O (by omega) (by omega)) okX5_tearOf clX5 q2259 q2261 qs37 dX5_line_134 (Or.inl T.1) rfl rfl (by decide) (Nat.zero_le _) (Nat.zero_le _) (Nat.le_of_ble_eq_true rfl) (fun _ => ?_)
          refine x_cVV (hte.symm ▸ t_writesNumber (n := (ix (tearOf g k))) T hte2 (by have q1 := dg_le k; have q2 := dg_le (ofB g k); have q3 := dg_le (ix (gj g k 2)); have q4 := dg_le (ix (tearOf g k)); have q5 := how_le g k; simp only [List.length_append, List.length_cons, List.length_nil, show (txl 21).length = 4 from rfl, show (txl 22).length = 2 from rfl, show (txl 23).length = 3 from rfl, show (txl 9).length = 4 from rfl, show (txl 17).length = 4 from rfl, show (txl 18).length = 4 from rfl, show (txl 19).length = 7 from rfl]; omega)) okX5_writesNumber clX5 q2370 q2372 qs51 dX5_line_137 (Or.inl T.1) rfl rfl (by decide) (Nat.zero_le _) (Nat.zero_le _) (Nat.le_of_ble_eq_true rfl) (fun _ => ?_)
          refine x_aload_n dX5_line_140 rfl rfl ?_
          refine tg_signMany T (.inl q2098) dX5_line_141 ?_
          refine x_iret rfl dX5_line_144 ?_
          have hw : howT g k = 18 := by
            unfold howT
            rw [if_neg (by assumption), if_neg (by assumption), if_pos (by assumption)]
          have hL : lineL g k = [] ++ [nI 106] ++ dg k ++ txl 21 ++ dg (ofB g k) ++ txl 22 ++ dg (ix (gj g k 2)) ++ txl 23 ++ txl 18 ++ txl 22 ++ dg (ix (tearOf g k)) := by unfold lineL; rw [hw]
          have hs : sp_line g (nI k) = (0, nI (lineL g k).length) := by
            show (if inB (nI k) 0 (g 8 - 1) = false then ((1 : Nat), (0 : Int32)) else (0, nI (lineL g (nI k).toNatClampNeg).length)) = _
            rw [xk]
            exact if_neg (by rw [e1]; decide)
          have ht : twL h a g S V (nI k) = lnH h a g S (upd V 34 (nI 0)) (lineL g k) := by
            unfold twL
            rw [hs]
            show lnH h a g S (upd V 34 (nI 0)) (lineL g (nI k).toNatClampNeg) = _
            rw [xk]
          rw [hs, ht, hL]
          exact ⟨rfl, rfl⟩
      · skip
        refine x_ldcS dX5_line_102 (List.mem_of_getElem? (i := 48) rfl) ?_
        refine x_goto 122 dX5_line_104 (by decide) ?_
        refine x_cVV (t_writesText T SG (i := 17) (by decide) (by have q1 := dg_le k; have q2 := dg_le (ofB g k); have q3 := dg_le (ix (gj g k 2)); have q4 := dg_le (ix (tearOf g k)); have q5 := how_le g k; simp only [List.length_append, List.length_cons, List.length_nil, show (txl 21).length = 4 from rfl, show (txl 22).length = 2 from rfl, show (txl 23).length = 3 from rfl, show (txl 9).length = 4 from rfl, show (txl 17).length = 4 from rfl, show (txl 18).length = 4 from rfl, show (txl 19).length = 7 from rfl]; omega)) okX5_writesText clX5 q2375 q2377 qs52 dX5_line_122 (Or.inl T.1) rfl rfl (by decide) (Nat.zero_le _) (Nat.zero_le _) (Nat.le_of_ble_eq_true rfl) (fun _ => ?_)
        refine x_aload_n dX5_line_125 rfl rfl ?_
        refine x_ldcS dX5_line_126 (List.mem_of_getElem? (i := 45) rfl) ?_
        refine x_cVV (t_writesText T SG (i := 22) (by decide) (by have q1 := dg_le k; have q2 := dg_le (ofB g k); have q3 := dg_le (ix (gj g k 2)); have q4 := dg_le (ix (tearOf g k)); have q5 := how_le g k; simp only [List.length_append, List.length_cons, List.length_nil, show (txl 21).length = 4 from rfl, show (txl 22).length = 2 from rfl, show (txl 23).length = 3 from rfl, show (txl 9).length = 4 from rfl, show (txl 17).length = 4 from rfl, show (txl 18).length = 4 from rfl, show (txl 19).length = 7 from rfl]; omega)) okX5_writesText clX5 q2375 q2377 qs52 dX5_line_128 (Or.inl T.1) rfl rfl (by decide) (Nat.zero_le _) (Nat.zero_le _) (Nat.le_of_ble_eq_true rfl) (fun _ => ?_)
        refine x_aload_n dX5_line_131 rfl rfl ?_
        refine x_aload_n dX5_line_132 rfl rfl ?_
        refine x_iload_n dX5_line_133 rfl rfl ?_
        refine x_cVI (t_tearOf T O (by omega) (by omega)) okX5_tearOf clX5 q2259 q2261 qs37 dX5_line_134 (Or.inl T.1) rfl rfl (by decide) (Nat.zero_le _) (Nat.zero_le _) (Nat.le_of_ble_eq_true rfl) (fun _ => ?_)
        refine x_cVV (hte.symm ▸ t_writesNumber (n := (ix (tearOf g k))) T hte2 (by have q1 := dg_le k; have q2 := dg_le (ofB g k); have q3 := dg_le (ix (gj g k 2)); have q4 := dg_le (ix (tearOf g k)); have q5 := how_le g k; simp only [List.length_append, List.length_cons, List.length_nil, show (txl 21).length = 4 from rfl, show (txl 22).length = 2 from rfl, show (txl 23).length = 3 from rfl, show (txl 9).length = 4 from rfl, show (txl 17).length = 4 from rfl, show (txl 18).length = 4 from rfl, show (txl 19).length = 7 from rfl]; omega)) okX5_writesNumber clX5 q2370 q2372 qs51 dX5_line_137 (Or.inl T.1) rfl rfl (by decide) (Nat.zero_le _) (Nat.zero_le _) (Nat.le_of_ble_eq_true rfl) (fun _ => ?_)
        refine x_aload_n dX5_line_140 rfl rfl ?_
        refine tg_signMany T (.inl q2098) dX5_line_141 ?_
        refine x_iret rfl dX5_line_144 ?_
        have hw : howT g k = 17 := by
          unfold howT
          rw [if_neg (by assumption), if_pos (by assumption)]
        have hL : lineL g k = [] ++ [nI 106] ++ dg k ++ txl 21 ++ dg (ofB g k) ++ txl 22 ++ dg (ix (gj g k 2)) ++ txl 23 ++ txl 17 ++ txl 22 ++ dg (ix (tearOf g k)) := by unfold lineL; rw [hw]
        have hs : sp_line g (nI k) = (0, nI (lineL g k).length) := by
          show (if inB (nI k) 0 (g 8 - 1) = false then ((1 : Nat), (0 : Int32)) else (0, nI (lineL g (nI k).toNatClampNeg).length)) = _
          rw [xk]
          exact if_neg (by rw [e1]; decide)
        have ht : twL h a g S V (nI k) = lnH h a g S (upd V 34 (nI 0)) (lineL g k) := by
          unfold twL
          rw [hs]
          show lnH h a g S (upd V 34 (nI 0)) (lineL g (nI k).toNatClampNeg) = _
          rw [xk]
        rw [hs, ht, hL]
        exact ⟨rfl, rfl⟩
    · skip
      refine x_ldcS dX5_line_87 (List.mem_of_getElem? (i := 47) rfl) ?_
      refine x_goto 122 dX5_line_89 (by decide) ?_
      refine x_cVV (t_writesText T SG (i := 9) (by decide) (by have q1 := dg_le k; have q2 := dg_le (ofB g k); have q3 := dg_le (ix (gj g k 2)); have q4 := dg_le (ix (tearOf g k)); have q5 := how_le g k; simp only [List.length_append, List.length_cons, List.length_nil, show (txl 21).length = 4 from rfl, show (txl 22).length = 2 from rfl, show (txl 23).length = 3 from rfl, show (txl 9).length = 4 from rfl, show (txl 17).length = 4 from rfl, show (txl 18).length = 4 from rfl, show (txl 19).length = 7 from rfl]; omega)) okX5_writesText clX5 q2375 q2377 qs52 dX5_line_122 (Or.inl T.1) rfl rfl (by decide) (Nat.zero_le _) (Nat.zero_le _) (Nat.le_of_ble_eq_true rfl) (fun _ => ?_)
      refine x_aload_n dX5_line_125 rfl rfl ?_
      refine x_ldcS dX5_line_126 (List.mem_of_getElem? (i := 45) rfl) ?_
      refine x_cVV (t_writesText T SG (i := 22) (by decide) (by have q1 := dg_le k; have q2 := dg_le (ofB g k); have q3 := dg_le (ix (gj g k 2)); have q4 := dg_le (ix (tearOf g k)); have q5 := how_le g k; simp only [List.length_append, List.length_cons, List.length_nil, show (txl 21).length = 4 from rfl, show (txl 22).length = 2 from rfl, show (txl 23).length = 3 from rfl, show (txl 9).length = 4 from rfl, show (txl 17).length = 4 from rfl, show (txl 18).length = 4 from rfl, show (txl 19).length = 7 from rfl]; omega)) okX5_writesText clX5 q2375 q2377 qs52 dX5_line_128 (Or.inl T.1) rfl rfl (by decide) (Nat.zero_le _) (Nat.zero_le _) (Nat.le_of_ble_eq_true rfl) (fun _ => ?_)
      refine x_aload_n dX5_line_131 rfl rfl ?_
      refine x_aload_n dX5_line_132 rfl rfl ?_
      refine x_iload_n dX5_line_133 rfl rfl ?_
      refine x_cVI (t_tearOf T O (by omega) (by omega)) okX5_tearOf clX5 q2259 q2261 qs37 dX5_line_134 (Or.inl T.1) rfl rfl (by decide) (Nat.zero_le _) (Nat.zero_le _) (Nat.le_of_ble_eq_true rfl) (fun _ => ?_)
      refine x_cVV (hte.symm ▸ t_writesNumber (n := (ix (tearOf g k))) T hte2 (by have q1 := dg_le k; have q2 := dg_le (ofB g k); have q3 := dg_le (ix (gj g k 2)); have q4 := dg_le (ix (tearOf g k)); have q5 := how_le g k; simp only [List.length_append, List.length_cons, List.length_nil, show (txl 21).length = 4 from rfl, show (txl 22).length = 2 from rfl, show (txl 23).length = 3 from rfl, show (txl 9).length = 4 from rfl, show (txl 17).length = 4 from rfl, show (txl 18).length = 4 from rfl, show (txl 19).length = 7 from rfl]; omega)) okX5_writesNumber clX5 q2370 q2372 qs51 dX5_line_137 (Or.inl T.1) rfl rfl (by decide) (Nat.zero_le _) (Nat.zero_le _) (Nat.le_of_ble_eq_true rfl) (fun _ => ?_)
      refine x_aload_n dX5_line_140 rfl rfl ?_
      refine tg_signMany T (.inl q2098) dX5_line_141 ?_
      refine x_iret rfl dX5_line_144 ?_
      have hw : howT g k = 9 := by
        unfold howT
        rw [if_pos (by assumption)]
      have hL : lineL g k = [] ++ [nI 106] ++ dg k ++ txl 21 ++ dg (ofB g k) ++ txl 22 ++ dg (ix (gj g k 2)) ++ txl 23 ++ txl 9 ++ txl 22 ++ dg (ix (tearOf g k)) := by unfold lineL; rw [hw]
      have hs : sp_line g (nI k) = (0, nI (lineL g k).length) := by
        show (if inB (nI k) 0 (g 8 - 1) = false then ((1 : Nat), (0 : Int32)) else (0, nI (lineL g (nI k).toNatClampNeg).length)) = _
        rw [xk]
        exact if_neg (by rw [e1]; decide)
      have ht : twL h a g S V (nI k) = lnH h a g S (upd V 34 (nI 0)) (lineL g k) := by
        unfold twL
        rw [hs]
        show lnH h a g S (upd V 34 (nI 0)) (lineL g (nI k).toNatClampNeg) = _
        rw [xk]
      rw [hs, ht, hL]
      exact ⟨rfl, rfl⟩
