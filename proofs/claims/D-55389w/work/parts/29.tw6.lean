/-! THE REFERENCE, sixth part: serve, servedIn, rest, trays, clear, snapshot, restore, undo, what is told; printed by tools/tw6.py -/
set_option maxRecDepth 100000
theorem GOk.ear {g : Nat → Int32} (O : GOk g) {x : Int32} : GOk (earnsG g x) ∧ nJr (earnsG g x) = nJr g :=
  ⟨(O.upd 10 _ (by refine ⟨?_, ?_, ?_, fun i _ => ?_, fun b _ => ?_⟩ <;> omega)).upd 6 _ (by refine ⟨?_, ?_, ?_, fun i _ => ?_, fun b _ => ?_⟩ <;> omega), by unfold earnsG; rw [nJr_upd (by decide), nJr_upd (by decide)]⟩
theorem GOk.bec {g : Nat → Int32} (O : GOk g) {j : Nat} {x : Int32} (hj : j < 20) : GOk (becomesG g j x) ∧ nJr (becomesG g j x) = nJr g :=
  ⟨(O.upd _ _ (by refine ⟨?_, ?_, ?_, fun i _ => ?_, fun b _ => ?_⟩ <;> omega)).upd _ _ (by refine ⟨?_, ?_, ?_, fun i _ => ?_, fun b _ => ?_⟩ <;> omega), by unfold becomesG; rw [nJr_upd (by omega), nJr_upd (by omega)]⟩
theorem oI_neg {o : Option Nat} (h : ∀ k, o = some k → k < 2147483648) : (oI o < 0 ↔ o = none) := by
  cases o with
  | none => exact ⟨fun _ => rfl, fun _ => by decide⟩
  | some k => exact ⟨fun z => absurd z (nI_pos (h k rfl)), fun z => by cases z⟩
theorem t_serve {G : GG} {h : AH} {a : Nat} {g : Nat → Int32} {S : Nat → Nat → Int32} {V : Nat → Int32} (T : Tw h a) (O : GOk g) (VO : VOk V) {x : Int32} : Cal G kX5_serve 5 0 0 [.ref a, .int x] (twh h a g S V) (rI (sp_serve g x).2.1 (twR h a g S V (nI 1) (nI 0) (nI 2) (sp_serve g x))) := by
  refine Cal.of (by decide +kernel) (Nat.le_of_ble_eq_true rfl) (fun c => ?_)
  have hb0 := O.b
  have hj0 := O.j
  have ho0 := O.o
  refine x_aload_n dX5_serve_0 rfl rfl ?_
  refine x_aload_n dX5_serve_1 rfl rfl ?_
  refine x_iload_n dX5_serve_2 rfl rfl ?_
  refine x_cVI (t_isOrder T) okX5_isOrder clX5 q2310 q2312 qs43 dX5_serve_3 (Or.inl T.1) rfl rfl (by decide) (Nat.zero_le _) (Nat.zero_le _) (Nat.le_of_ble_eq_true rfl) (fun _ => ?_)
  refine x_if_eqB 13 dX5_serve_6 (by decide) (fun e1 => ?_) (fun e1 => ?_)
  · skip
    refine x_iconst (nI 1) dX5_serve_13 (by decide) ?_
    refine x_cVI (t_fails1 T) okX5_fails clX5 q2159 q2161 qs23 dX5_serve_14 (Or.inl T.1) rfl rfl (by decide) (Nat.zero_le _) (Nat.zero_le _) (Nat.le_of_ble_eq_true rfl) (fun _ => ?_)
    refine x_if_eq 22 dX5_serve_17 (by decide) (fun z => False.elim (by revert z; decide)) (fun _ => ?_)
    refine x_iconst (nI 0) dX5_serve_20 (by decide) ?_
    refine x_iret rfl dX5_serve_21 ?_
    rw [show sp_serve g x = iobR g from by simp_all [sp_serve, nIl, nle_i, nlt_i]]
    exact ⟨rfl, by simp only [twR, upd_uu]; try rfl⟩
  · skip
    obtain ⟨k, hk, rfl⟩ := inB_m O.o.1 (by omega) e1
    have xk : (nI k).toNatClampNeg = k := ix_nI (by omega)
    refine x_iconst (nI 0) dX5_serve_9 (by decide) ?_
    refine x_goto 14 dX5_serve_10 (by decide) ?_
    refine x_cVI (t_fails0 T) okX5_fails clX5 q2159 q2161 qs23 dX5_serve_14 (Or.inl T.1) rfl rfl (by decide) (Nat.zero_le _) (Nat.zero_le _) (Nat.le_of_ble_eq_true rfl) (fun _ => ?_)
    refine x_if_eq 22 dX5_serve_17 (by decide) (fun _ => ?_) (fun z => False.elim (by revert z; decide))
    refine x_aload_n dX5_serve_22 rfl rfl ?_
    refine x_iload_n dX5_serve_23 rfl rfl ?_
    refine x_iconst (nI 2) dX5_serve_24 (by decide) ?_
    refine x_cVI (t_ofOrder T (by omega)) okX5_ofOrder clX5 q2314 q2316 qs44 dX5_serve_25 (Or.inl T.1) rfl rfl (by decide) (Nat.zero_le _) (Nat.zero_le _) (Nat.le_of_ble_eq_true rfl) (fun _ => ?_)
    refine x_iconst (nI 1) dX5_serve_28 (by decide) ?_
    refine x_icmp_ne 41 dX5_serve_29 (by decide) (fun e2 => ?_) (fun e2 => ?_)
    · skip
      refine x_aload_n dX5_serve_41 rfl rfl ?_
      refine x_iload_n dX5_serve_42 rfl rfl ?_
      refine x_cVI (t_findJar T O (by omega)) okX5_findJar clX5 q2318 q2320 qs45 dX5_serve_43 (Or.inl T.1) rfl rfl (by decide) (Nat.zero_le _) (Nat.zero_le _) (Nat.le_of_ble_eq_true rfl) (fun _ => ?_)
      refine x_istore_n [(2, .int (oI (findJar g k))), (0, .ref a), (1, .int (nI k))] dX5_serve_46 rfl (by decide) rfl ?_
      refine x_iload_n dX5_serve_47 rfl rfl ?_
      cases hf : findJar g k with
      | none =>
        refine x_if_ge 64 dX5_serve_48 (by decide) (fun z => absurd z (by decide)) (fun _ => ?_)
        refine x_aload_n dX5_serve_51 rfl rfl ?_
        refine x_iconst (nI 2) dX5_serve_52 (by decide) ?_
        refine x_bipush (nI 11) dX5_serve_53 (by decide) ?_
        refine x_aload_n dX5_serve_55 rfl rfl ?_
        refine x_iconst (nI 0) dX5_serve_56 (by decide) ?_
        refine x_cVI (t_jars T O) okX5_jars clX5 q2326 q2328 qs47 dX5_serve_57 (Or.inl T.1) rfl rfl (by decide) (Nat.zero_le _) (Nat.zero_le _) (Nat.le_of_ble_eq_true rfl) (fun _ => ?_)
        refine x_cVI (t_refuses T) okX5_refuses clX5 q2163 q2165 qs24 dX5_serve_60 (Or.inl T.1) rfl rfl (by decide) (Nat.zero_le _) (Nat.zero_le _) (Nat.le_of_ble_eq_true rfl) (fun _ => ?_)
        refine x_iret rfl dX5_serve_63 ?_
        rw [show sp_serve g (nI k) = refR (nI 11) (nI (jarsN g (nI 0))) g from by simp_all [sp_serve, nIl, nle_i, nlt_i]]
        exact ⟨rfl, by simp only [twR, upd_uu]; try rfl⟩
      | some j =>
        have hj : j < nJr g := fjS_lt hf
        refine x_if_ge 64 dX5_serve_48 (by decide) (fun _ => ?_) (fun z => absurd (show (0 : Int32) ≤ oI (some j) from nI_pos' (by omega)) z)
        refine X_lvs (lv' := [(2, .int (nI j)), (0, .ref a), (1, .int (nI k))]) rfl ?_
        refine x_aload_n dX5_serve_64 rfl rfl ?_
        refine x_aload_n dX5_serve_65 rfl rfl ?_
        refine tg_g T (.inl q2082) dX5_serve_66 ?_
        refine x_cVV (t_keepsF T VO) okX5_keeps clX5 q2167 q2169 qs25 dX5_serve_69 (Or.inl T.1) rfl rfl (by decide) (Nat.zero_le _) (Nat.zero_le _) (Nat.le_of_ble_eq_true rfl) (fun _ => ?_)
        refine x_aload_n dX5_serve_72 rfl rfl ?_
        refine x_iload_n dX5_serve_73 rfl rfl ?_
        refine x_iconst (nI 2) dX5_serve_74 (by decide) ?_
        refine x_cVV (t_becomes T O (by omega) (by omega)) okX5_becomes clX5 q2255 q2257 qs36 dX5_serve_75 (Or.inl T.1) rfl rfl (by decide) (Nat.zero_le _) (Nat.zero_le _) (Nat.le_of_ble_eq_true rfl) (fun _ => ?_)
        refine x_aload_n dX5_serve_78 rfl rfl ?_
        refine x_aload_n dX5_serve_79 rfl rfl ?_
        refine x_iload_n dX5_serve_80 rfl rfl ?_
        refine x_iconst (nI 3) dX5_serve_81 (by decide) ?_
        refine x_cVI (t_ofJar T (by omega)) okX5_ofJar clX5 q2251 q2253 qs35 dX5_serve_82 (Or.inl T.1) rfl rfl (by decide) (Nat.zero_le _) (Nat.zero_le _) (Nat.le_of_ble_eq_true rfl) (fun _ => ?_)
        refine x_iconst (nI 2) dX5_serve_85 (by decide) ?_
        refine x_idiv dX5_serve_86 (by decide) ?_
        refine x_iconst (nI 2) dX5_serve_87 (by decide) ?_
        refine x_iadd dX5_serve_88 ?_
        refine x_cVV (t_earns T) okX5_earns clX5 q2275 q2277 qs40 dX5_serve_89 (Or.inl T.1) rfl rfl (by decide) (Nat.zero_le _) (Nat.zero_le _) (Nat.le_of_ble_eq_true rfl) (fun _ => ?_)
        refine x_aload_n dX5_serve_92 rfl rfl ?_
        refine tg_g T (.inl q2082) dX5_serve_93 ?_
        refine x_sipush (nI 189) dX5_serve_96 (by decide) ?_
        refine x_iconst (nI 4) dX5_serve_99 (by decide) ?_
        refine x_iload_n dX5_serve_100 rfl rfl ?_
        refine x_imul dX5_serve_101 ?_
        refine x_val (pk_mul _ _) ?_
        refine x_iadd dX5_serve_102 ?_
        refine x_val (nI_add _ _) ?_
        refine x_iconst (nI 2) dX5_serve_103 (by decide) ?_
        refine x_iadd dX5_serve_104 ?_
        refine x_val (nI_add _ _) ?_
        refine x_iconst (nI 1) dX5_serve_105 (by decide) ?_
        refine tst1 T rfl (by omega) dX5_serve_106 ?_
        refine x_aload_n dX5_serve_107 rfl rfl ?_
        refine tg_g T (.inl q2082) dX5_serve_108 ?_
        refine x_sipush (nI 189) dX5_serve_111 (by decide) ?_
        refine x_iconst (nI 4) dX5_serve_114 (by decide) ?_
        refine x_iload_n dX5_serve_115 rfl rfl ?_
        refine x_imul dX5_serve_116 ?_
        refine x_val (pk_mul _ _) ?_
        refine x_iadd dX5_serve_117 ?_
        refine x_val (nI_add _ _) ?_
        refine x_iconst (nI 3) dX5_serve_118 (by decide) ?_
        refine x_iadd dX5_serve_119 ?_
        refine x_val (nI_add _ _) ?_
        refine x_iload_n dX5_serve_120 rfl rfl ?_
        refine tst1 T rfl (by omega) dX5_serve_121 ?_
        refine x_iload_n dX5_serve_122 rfl rfl ?_
        refine x_iret rfl dX5_serve_123 ?_
        rw [show sp_serve g (nI k) = okR (nI j) (serveG g k j) from by simp_all [sp_serve, nIl, nle_i, nlt_i]]
        exact ⟨rfl, rfl⟩
    · skip
      refine x_aload_n dX5_serve_32 rfl rfl ?_
      refine x_iconst (nI 2) dX5_serve_33 (by decide) ?_
      refine x_bipush (nI 10) dX5_serve_34 (by decide) ?_
      refine x_iload_n dX5_serve_36 rfl rfl ?_
      refine x_cVI (t_refuses T) okX5_refuses clX5 q2163 q2165 qs24 dX5_serve_37 (Or.inl T.1) rfl rfl (by decide) (Nat.zero_le _) (Nat.zero_le _) (Nat.le_of_ble_eq_true rfl) (fun _ => ?_)
      refine x_iret rfl dX5_serve_40 ?_
      rw [show sp_serve g (nI k) = refR (nI 10) (nI k) g from by simp_all [sp_serve, nIl, nle_i, nlt_i]]
      exact ⟨rfl, by simp only [twR, upd_uu]; try rfl⟩
theorem t_rest {G : GG} {h : AH} {a : Nat} {g : Nat → Int32} {S : Nat → Nat → Int32} {V : Nat → Int32} (T : Tw h a) (O : GOk g) (VO : VOk V) {x : Int32} : Cal G kX5_rest 5 0 0 [.ref a, .int x] (twh h a g S V) (rI (sp_rest g x).2.1 (twR h a g S V (nI 0) (nI 1) (nI 2) (sp_rest g x))) := by
  refine Cal.of (by decide +kernel) (Nat.le_of_ble_eq_true rfl) (fun c => ?_)
  have hb0 := O.b
  have hj0 := O.j
  have ho0 := O.o
  refine x_aload_n dX5_rest_0 rfl rfl ?_
  refine x_iload_n dX5_rest_1 rfl rfl ?_
  refine x_iconst (nI 1) dX5_rest_2 (by decide) ?_
  refine x_bipush (nI 40) dX5_rest_3 (by decide) ?_
  refine x_cSI t_in okX5_in q2156 q2157 dX5_rest_5 rfl rfl (by decide) (Nat.zero_le _) (Nat.zero_le _) (Nat.le_of_ble_eq_true rfl) (fun _ => ?_)
  refine x_if_eqB 15 dX5_rest_8 (by decide) (fun e1 => ?_) (fun e1 => ?_)
  · skip
    refine x_iconst (nI 1) dX5_rest_15 (by decide) ?_
    refine x_cVI (t_fails1 T) okX5_fails clX5 q2159 q2161 qs23 dX5_rest_16 (Or.inl T.1) rfl rfl (by decide) (Nat.zero_le _) (Nat.zero_le _) (Nat.le_of_ble_eq_true rfl) (fun _ => ?_)
    refine x_if_eq 24 dX5_rest_19 (by decide) (fun z => False.elim (by revert z; decide)) (fun _ => ?_)
    refine x_iconst (nI 0) dX5_rest_22 (by decide) ?_
    refine x_iret rfl dX5_rest_23 ?_
    rw [show sp_rest g x = iaeR g from by simp_all [sp_rest, ← pk_mul, ← nI_add, nIl, ixl, nle_i, nlt_i]]
    exact ⟨rfl, by simp only [twR, upd_uu]; try rfl⟩
  · skip
    obtain ⟨n, ln, hn, rfl⟩ := inB_1 (n := 40) (by decide) e1
    have xn : (nI n).toNatClampNeg = n := ix_nI (by omega)
    refine x_iconst (nI 0) dX5_rest_11 (by decide) ?_
    refine x_goto 16 dX5_rest_12 (by decide) ?_
    refine x_cVI (t_fails0 T) okX5_fails clX5 q2159 q2161 qs23 dX5_rest_16 (Or.inl T.1) rfl rfl (by decide) (Nat.zero_le _) (Nat.zero_le _) (Nat.le_of_ble_eq_true rfl) (fun _ => ?_)
    refine x_if_eq 24 dX5_rest_19 (by decide) (fun _ => ?_) (fun z => False.elim (by revert z; decide))
    refine x_aload_n dX5_rest_24 rfl rfl ?_
    refine x_aload_n dX5_rest_25 rfl rfl ?_
    refine tg_g T (.inl q2082) dX5_rest_26 ?_
    refine x_cVV (t_keepsF T VO) okX5_keeps clX5 q2167 q2169 qs25 dX5_rest_29 (Or.inl T.1) rfl rfl (by decide) (Nat.zero_le _) (Nat.zero_le _) (Nat.le_of_ble_eq_true rfl) (fun _ => ?_)
    refine x_iconst (nI 0) dX5_rest_32 (by decide) ?_
    refine x_istore_n [(2, .int (nI 0)), (0, .ref a), (1, .int (nI n))] dX5_rest_33 rfl (by decide) rfl ?_
    refine x_iconst (nI 0) dX5_rest_34 (by decide) ?_
    refine x_istore_n [(3, .int (nI 0)), (2, .int (nI 0)), (0, .ref a), (1, .int (nI n))] dX5_rest_35 rfl (by decide) rfl ?_
    refine x_eq (h' := twh h a (dayN g 0) (kpS S V g) (kpV V)) rfl rfl rfl ?_
    refine x_sub [2, 3, 1, 0] (lv' := [(0, .ref a), (1, .int (nI n)), (2, .int (nI 0)), (3, .int (nI 0))]) rfl ?_
    refine x_bud (bc' := 0) (bs' := 0) (by first | exact Nat.zero_le _ | omega) (by first | exact Nat.zero_le _ | omega) ?_
    refine lpN (P := fun i => X G c kX5_rest 5 _ _ _ 0 0 (twh h a (dayN g i) (kpS S V g) (kpV V)) 36 [(0, .ref a), (1, .int (nI n)), (2, .int (nI (dayC g i))), (3, .int (nI i))] []) n (fun i hi ih => ?_) 0 (Nat.zero_le _)
    obtain ⟨Oi, hJi⟩ := O.dayN i
    refine x_iload_n dX5_rest_36 rfl rfl ?_
    refine x_iload_n dX5_rest_37 rfl rfl ?_
    refine x_icmp_ge 54 dX5_rest_38 (by decide) (fun e2 => ?_) (fun e2 => ?_)
    · skip
      have ne2 := e2
      rw [nI_leI (by omega) (by omega)] at ne2
      refine x_iload_n dX5_rest_54 rfl rfl ?_
      refine x_iret rfl dX5_rest_55 ?_
      obtain rfl : n = i := by omega
      rw [show sp_rest g (nI n) = okR (nI (dayC g n)) (dayN g n) from by simp_all [sp_rest, nIl]]
      exact ⟨rfl, rfl⟩
    · skip
      have ne2 := e2
      rw [nI_leI (by omega) (by omega)] at ne2
      refine x_iload_n dX5_rest_41 rfl rfl ?_
      refine x_aload_n dX5_rest_42 rfl rfl ?_
      refine x_cVI (t_goesBy T Oi) okX5_goesBy clX5 q2338 q2340 qs48 dX5_rest_43 (Or.inl T.1) rfl rfl (by decide) (Nat.zero_le _) (Nat.zero_le _) (Nat.le_of_ble_eq_true rfl) (fun _ => ?_)
      refine x_iadd dX5_rest_46 ?_
      refine x_val (nI_add _ _) ?_
      refine x_istore_n [(2, .int (nI ((dayC g i) + (goesN (dayN g i))))), (0, .ref a), (1, .int (nI n)), (3, .int (nI i))] dX5_rest_47 rfl (by decide) rfl ?_
      refine x_iinc (j := 3) (nI (i + 1)) [(3, .int (nI (i + 1))), (2, .int (nI ((dayC g i) + (goesN (dayN g i))))), (0, .ref a), (1, .int (nI n))] dX5_rest_48 rfl (by first | exact nI_add _ _ | decide) (by decide) rfl ?_
      refine x_goto 36 dX5_rest_51 (by decide) ?_
      refine x_sub [2, 3, 1, 0] (lv' := [(0, .ref a), (1, .int (nI n)), (2, .int (nI ((dayC g i) + (goesN (dayN g i))))), (3, .int (nI (i + 1)))]) rfl ?_
      refine x_eq (h' := twh h a (dayN g (i + 1)) (kpS S V g) (kpV V)) rfl rfl rfl ?_
      exact ih (by omega)
/-- the reference behind servedIn -/
def twQ2 (h : AH) (a : Nat) (g : Nat → Int32) (S : Nat → Nat → Int32) (V : Nat → Int32) (r : Nat × Int32) : AH :=
  match r.1 with
  | 1 => twh h a g S (upd V 34 1)
  | 2 => twh h a g S (upd V 34 2)
  | k => twh h a g (upS S 5 (va_cpy g (S 5) 0 0 221)) (upd V 34 (nI k))
theorem t_servedIn {G : GG} {h : AH} {a : Nat} {g : Nat → Int32} {S : Nat → Nat → Int32} {V : Nat → Int32} (T : Tw h a) (O : GOk g) {x : Int32} : Cal G kX5_servedIn 5 0 0 [.ref a, .int x] (twh h a g S V) (rI (sp_servedIn g x).2 (twQ2 h a g S V (sp_servedIn g x))) := by
  refine Cal.of (by decide +kernel) (Nat.le_of_ble_eq_true rfl) (fun c => ?_)
  have hb0 := O.b
  have hj0 := O.j
  have ho0 := O.o
  refine x_aload_n dX5_servedIn_0 rfl rfl ?_
  refine x_aload_n dX5_servedIn_1 rfl rfl ?_
  refine x_iload_n dX5_servedIn_2 rfl rfl ?_
  refine x_cVI (t_isOrder T) okX5_isOrder clX5 q2310 q2312 qs43 dX5_servedIn_3 (Or.inl T.1) rfl rfl (by decide) (Nat.zero_le _) (Nat.zero_le _) (Nat.le_of_ble_eq_true rfl) (fun _ => ?_)
  refine x_if_neB 13 dX5_servedIn_6 (by decide) (fun e1 => ?_) (fun e1 => ?_)
  · skip
    obtain ⟨k, hk, rfl⟩ := inB_m O.o.1 (by omega) e1
    have xk : (nI k).toNatClampNeg = k := ix_nI (by omega)
    refine x_aload_n dX5_servedIn_13 rfl rfl ?_
    refine x_iload_n dX5_servedIn_14 rfl rfl ?_
    refine x_iconst (nI 2) dX5_servedIn_15 (by decide) ?_
    refine x_cVI (t_ofOrder T (by omega)) okX5_ofOrder clX5 q2314 q2316 qs44 dX5_servedIn_16 (Or.inl T.1) rfl rfl (by decide) (Nat.zero_le _) (Nat.zero_le _) (Nat.le_of_ble_eq_true rfl) (fun _ => ?_)
    refine x_iconst (nI 1) dX5_servedIn_19 (by decide) ?_
    refine x_icmp_ne 27 dX5_servedIn_20 (by decide) (fun e2 => ?_) (fun e2 => ?_)
    · skip
      refine x_iconst (nI 0) dX5_servedIn_27 (by decide) ?_
      refine x_cVI (t_fails0 T) okX5_fails clX5 q2159 q2161 qs23 dX5_servedIn_28 (Or.inl T.1) rfl rfl (by decide) (Nat.zero_le _) (Nat.zero_le _) (Nat.le_of_ble_eq_true rfl) (fun _ => ?_)
      refine x_if_eq 36 dX5_servedIn_31 (by decide) (fun _ => ?_) (fun z => False.elim (by revert z; decide))
      refine x_aload_n dX5_servedIn_36 rfl rfl ?_
      refine tg_g T (.inl q2082) dX5_servedIn_37 ?_
      refine x_iconst (nI 0) dX5_servedIn_40 (by decide) ?_
      refine x_aload_n dX5_servedIn_41 rfl rfl ?_
      refine tg_spare T (.inl q2086) dX5_servedIn_42 ?_
      refine x_iconst (nI 0) dX5_servedIn_45 (by decide) ?_
      refine x_cSV (by
          have k9 := t_copies (G := G) (h := twh h a g S (upd V 34 (nI 0))) (s := a + 1) (t := a + 5) (p0 := 0) (q0 := 0) (T.2.2.2.2.2.2.2.2.2.1) (T.2.2.2.2.2.2.2.2.2.2.2.2.2.1) (by rw [twh_hLn, T.2.2.2.2.2.2.2.2.2.2.2.2.2.2.2.2.2.1]; omega) (by rw [twh_hLn, T.2.2.2.2.2.2.2.2.2.2.2.2.2.2.2.2.2.2.2.2.2.1]; omega) (by omega) (by omega) (by omega)
          rw [(twh_g : hEI (twh h a g S (upd V 34 (nI 0))) (a + 1) = g), ((twh_S (by decide) (by decide)).trans (by first | rfl | exact upS_s | exact upS_n (by decide)) : hEI (twh h a g S (upd V 34 (nI 0))) (a + 5) = S 5), twh_uS (by decide) (by decide)] at k9
          exact k9) okX5_copies q2171 q2172 dX5_servedIn_46 rfl rfl (by decide) (Nat.zero_le _) (Nat.zero_le _) (Nat.le_of_ble_eq_true rfl) (fun _ => ?_)
      refine x_iconst (nI 0) dX5_servedIn_49 (by decide) ?_
      refine x_istore_n [(2, .int (nI 0)), (0, .ref a), (1, .int (nI k))] dX5_servedIn_50 rfl (by decide) rfl ?_
      refine x_eq (h' := twh h a (dayN g 0) (upS S 5 (va_cpy g (S 5) 0 0 221)) (upd V 34 (nI 0))) rfl rfl rfl ?_
      refine x_sub [1, 2, 0] (lv' := [(0, .ref a), (1, .int (nI k)), (2, .int (nI 0))]) rfl ?_
      refine x_bud (bc' := 0) (bs' := 0) (by first | exact Nat.zero_le _ | omega) (by first | exact Nat.zero_le _ | omega) ?_
      refine lpN (P := fun i => lf (svP g k) i = none → X G c kX5_servedIn 5 _ _ _ 0 0 (twh h a (dayN g i) (upS S 5 (va_cpy g (S 5) 0 0 221)) (upd V 34 (nI 0))) 51 [(0, .ref a), (1, .int (nI k)), (2, .int (nI i))] []) 61 (fun i hi ih hl => ?_) 0 (Nat.zero_le _) rfl
      obtain ⟨Oi, hJi⟩ := O.dayN i
      refine x_iload_n dX5_servedIn_51 rfl rfl ?_
      refine x_bipush (nI 60) dX5_servedIn_52 (by decide) ?_
      refine x_icmp_gt 80 dX5_servedIn_54 (by decide) (fun e3 => ?_) (fun e3 => ?_)
      · skip
        have ne3 := e3
        rw [nI_ltI (by omega) (by omega)] at ne3
        obtain rfl : i = 61 := by omega
        have hd : svD g k = 61 := by unfold svD; rw [hl]
        obtain ⟨i, hi61⟩ : ∃ i, i = 61 := ⟨61, rfl⟩
        rw [← hi61]
        rw [← hi61] at hd
        refine x_aload_n dX5_servedIn_80 rfl rfl ?_
        refine tg_spare T (.inl q2086) dX5_servedIn_81 ?_
        refine x_iconst (nI 0) dX5_servedIn_84 (by decide) ?_
        refine x_aload_n dX5_servedIn_85 rfl rfl ?_
        refine tg_g T (.inl q2082) dX5_servedIn_86 ?_
        refine x_iconst (nI 0) dX5_servedIn_89 (by decide) ?_
        refine x_cSV (by
            have k9 := t_copies (G := G) (h := twh h a (dayN g i) (upS S 5 (va_cpy g (S 5) 0 0 221)) (upd V 34 (nI 0))) (s := a + 5) (t := a + 1) (p0 := 0) (q0 := 0) (T.2.2.2.2.2.2.2.2.2.2.2.2.2.1) (T.2.2.2.2.2.2.2.2.2.1) (by rw [twh_hLn, T.2.2.2.2.2.2.2.2.2.2.2.2.2.2.2.2.2.2.2.2.2.1]; omega) (by rw [twh_hLn, T.2.2.2.2.2.2.2.2.2.2.2.2.2.2.2.2.2.1]; omega) (by omega) (by omega) (by omega)
            rw [((twh_S (by decide) (by decide)).trans (by first | rfl | exact upS_s | exact upS_n (by decide)) : hEI (twh h a (dayN g i) (upS S 5 (va_cpy g (S 5) 0 0 221)) (upd V 34 (nI 0))) (a + 5) = va_cpy g (S 5) 0 0 221), (twh_g : hEI (twh h a (dayN g i) (upS S 5 (va_cpy g (S 5) 0 0 221)) (upd V 34 (nI 0))) (a + 1) = dayN g i), twh_uG] at k9
            exact k9) okX5_copies q2171 q2172 dX5_servedIn_90 rfl rfl (by decide) (Nat.zero_le _) (Nat.zero_le _) (Nat.le_of_ble_eq_true rfl) (fun _ => ?_)
        rw [spare_back O i]
        refine x_aload_n dX5_servedIn_93 rfl rfl ?_
        refine x_iload_n dX5_servedIn_94 rfl rfl ?_
        refine x_bipush (nI 60) dX5_servedIn_95 (by decide) ?_
        refine x_icmp_le 104 dX5_servedIn_97 (by decide) (fun e4 => ?_) (fun e4 => ?_)
        · skip
          have ne4 := e4
          rw [nI_leI (by omega) (by omega)] at ne4
          refine x_iconst (nI 0) dX5_servedIn_104 (by decide) ?_
          refine x_cVI (t_fails0 T) okX5_fails clX5 q2159 q2161 qs23 dX5_servedIn_105 (Or.inl T.1) rfl rfl (by decide) (Nat.zero_le _) (Nat.zero_le _) (Nat.le_of_ble_eq_true rfl) (fun _ => ?_)
          refine x_if_eq 115 dX5_servedIn_108 (by decide) (fun _ => ?_) (fun z => False.elim (by revert z; decide))
          refine x_iload_n dX5_servedIn_115 rfl rfl ?_
          refine x_iret rfl dX5_servedIn_116 ?_
          have hne : ¬ i = 61 := by omega
          rw [show sp_servedIn g (nI k) = (0, nI i) from by simp_all [sp_servedIn, nIl, nle_i, nlt_i]]
          exact ⟨rfl, by simp only [twQ2, upd_uu]; try rfl⟩
        · skip
          have ne4 := e4
          rw [nI_leI (by omega) (by omega)] at ne4
          refine x_iconst (nI 3) dX5_servedIn_100 (by decide) ?_
          refine x_goto 105 dX5_servedIn_101 (by decide) ?_
          refine x_cVI (t_fails3 T) okX5_fails clX5 q2159 q2161 qs23 dX5_servedIn_105 (Or.inl T.1) rfl rfl (by decide) (Nat.zero_le _) (Nat.zero_le _) (Nat.le_of_ble_eq_true rfl) (fun _ => ?_)
          refine x_if_eq 115 dX5_servedIn_108 (by decide) (fun z => False.elim (by revert z; decide)) (fun _ => ?_)
          refine x_iconst (nI 0) dX5_servedIn_111 (by decide) ?_
          refine x_goto 116 dX5_servedIn_112 (by decide) ?_
          refine x_iret rfl dX5_servedIn_116 ?_
          rw [show sp_servedIn g (nI k) = (3, nI 0) from by simp_all [sp_servedIn, nIl, nle_i, nlt_i]]
          exact ⟨rfl, by simp only [twQ2, upd_uu]; try rfl⟩
      · skip
        have ne3 := e3
        rw [nI_ltI (by omega) (by omega)] at ne3
        refine x_aload_n dX5_servedIn_57 rfl rfl ?_
        refine x_iload_n dX5_servedIn_58 rfl rfl ?_
        refine x_cVI (t_findJar T Oi (by omega)) okX5_findJar clX5 q2318 q2320 qs45 dX5_servedIn_59 (Or.inl T.1) rfl rfl (by decide) (Nat.zero_le _) (Nat.zero_le _) (Nat.le_of_ble_eq_true rfl) (fun _ => ?_)
        have hfl : ∀ z, findJar (dayN g i) k = some z → z < 2147483648 := fun z hz => by have := fjS_lt hz; have := Oi.j; omega
        refine x_if_ge 80 dX5_servedIn_62 (by decide) (fun e7 => ?_) (fun e7 => ?_)
        · skip
          have hp : svP g k i = true := by
            unfold svP
            cases hf : findJar (dayN g i) k with
            | none => rw [hf] at e7; exact absurd e7 (by decide)
            | some z => rfl
          have hd : svD g k = i := by unfold svD; rw [lf_found hl hp (by omega)]
          refine x_aload_n dX5_servedIn_80 rfl rfl ?_
          refine tg_spare T (.inl q2086) dX5_servedIn_81 ?_
          refine x_iconst (nI 0) dX5_servedIn_84 (by decide) ?_
          refine x_aload_n dX5_servedIn_85 rfl rfl ?_
          refine tg_g T (.inl q2082) dX5_servedIn_86 ?_
          refine x_iconst (nI 0) dX5_servedIn_89 (by decide) ?_
          refine x_cSV (by
              have k9 := t_copies (G := G) (h := twh h a (dayN g i) (upS S 5 (va_cpy g (S 5) 0 0 221)) (upd V 34 (nI 0))) (s := a + 5) (t := a + 1) (p0 := 0) (q0 := 0) (T.2.2.2.2.2.2.2.2.2.2.2.2.2.1) (T.2.2.2.2.2.2.2.2.2.1) (by rw [twh_hLn, T.2.2.2.2.2.2.2.2.2.2.2.2.2.2.2.2.2.2.2.2.2.1]; omega) (by rw [twh_hLn, T.2.2.2.2.2.2.2.2.2.2.2.2.2.2.2.2.2.1]; omega) (by omega) (by omega) (by omega)
              rw [((twh_S (by decide) (by decide)).trans (by first | rfl | exact upS_s | exact upS_n (by decide)) : hEI (twh h a (dayN g i) (upS S 5 (va_cpy g (S 5) 0 0 221)) (upd V 34 (nI 0))) (a + 5) = va_cpy g (S 5) 0 0 221), (twh_g : hEI (twh h a (dayN g i) (upS S 5 (va_cpy g (S 5) 0 0 221)) (upd V 34 (nI 0))) (a + 1) = dayN g i), twh_uG] at k9
              exact k9) okX5_copies q2171 q2172 dX5_servedIn_90 rfl rfl (by decide) (Nat.zero_le _) (Nat.zero_le _) (Nat.le_of_ble_eq_true rfl) (fun _ => ?_)
          rw [spare_back O i]
          refine x_aload_n dX5_servedIn_93 rfl rfl ?_
          refine x_iload_n dX5_servedIn_94 rfl rfl ?_
          refine x_bipush (nI 60) dX5_servedIn_95 (by decide) ?_
          refine x_icmp_le 104 dX5_servedIn_97 (by decide) (fun e5 => ?_) (fun e5 => ?_)
          · skip
            have ne5 := e5
            rw [nI_leI (by omega) (by omega)] at ne5
            refine x_iconst (nI 0) dX5_servedIn_104 (by decide) ?_
            refine x_cVI (t_fails0 T) okX5_fails clX5 q2159 q2161 qs23 dX5_servedIn_105 (Or.inl T.1) rfl rfl (by decide) (Nat.zero_le _) (Nat.zero_le _) (Nat.le_of_ble_eq_true rfl) (fun _ => ?_)
            refine x_if_eq 115 dX5_servedIn_108 (by decide) (fun _ => ?_) (fun z => False.elim (by revert z; decide))
            refine x_iload_n dX5_servedIn_115 rfl rfl ?_
            refine x_iret rfl dX5_servedIn_116 ?_
            have hne : ¬ i = 61 := by omega
            rw [show sp_servedIn g (nI k) = (0, nI i) from by simp_all [sp_servedIn, nIl, nle_i, nlt_i]]
            exact ⟨rfl, by simp only [twQ2, upd_uu]; try rfl⟩
          · skip
            have ne5 := e5
            rw [nI_leI (by omega) (by omega)] at ne5
            refine x_iconst (nI 3) dX5_servedIn_100 (by decide) ?_
            refine x_goto 105 dX5_servedIn_101 (by decide) ?_
            refine x_cVI (t_fails3 T) okX5_fails clX5 q2159 q2161 qs23 dX5_servedIn_105 (Or.inl T.1) rfl rfl (by decide) (Nat.zero_le _) (Nat.zero_le _) (Nat.le_of_ble_eq_true rfl) (fun _ => ?_)
            refine x_if_eq 115 dX5_servedIn_108 (by decide) (fun z => False.elim (by revert z; decide)) (fun _ => ?_)
            refine x_iconst (nI 0) dX5_servedIn_111 (by decide) ?_
            refine x_goto 116 dX5_servedIn_112 (by decide) ?_
            refine x_iret rfl dX5_servedIn_116 ?_
            rw [show sp_servedIn g (nI k) = (3, nI 0) from by simp_all [sp_servedIn, nIl, nle_i, nlt_i]]
            exact ⟨rfl, by simp only [twQ2, upd_uu]; try rfl⟩
        · skip
          have hp : svP g k i = false := by
            unfold svP
            rw [(oI_neg hfl).mp (Int32.not_le.mp e7)]
            rfl
          refine x_iinc (j := 2) (nI (i + 1)) [(2, .int (nI (i + 1))), (0, .ref a), (1, .int (nI k))] dX5_servedIn_65 rfl (by first | exact nI_add _ _ | decide) (by decide) rfl ?_
          refine x_aload_n dX5_servedIn_68 rfl rfl ?_
          refine x_cVI (t_goesBy T Oi) okX5_goesBy clX5 q2338 q2340 qs48 dX5_servedIn_69 (Or.inl T.1) rfl rfl (by decide) (Nat.zero_le _) (Nat.zero_le _) (Nat.le_of_ble_eq_true rfl) (fun _ => ?_)
          refine x_if_ge 51 dX5_servedIn_72 (by decide) (fun _ => ?_) (fun z => absurd (nI_pos' (by have h1 := gyS_le (dayN g i) (nJr (dayN g i)); have h2 := Oi.j; exact Nat.lt_of_le_of_lt h1 (by omega))) z)
          refine x_sub [1, 2, 0] (lv' := [(0, .ref a), (1, .int (nI k)), (2, .int (nI (i + 1)))]) rfl ?_
          refine x_eq (h' := twh h a (dayN g (i + 1)) (upS S 5 (va_cpy g (S 5) 0 0 221)) (upd V 34 (nI 0))) rfl rfl rfl ?_
          exact ih (by omega) (lf_step hl hp)
    · skip
      refine x_iconst (nI 2) dX5_servedIn_23 (by decide) ?_
      refine x_goto 28 dX5_servedIn_24 (by decide) ?_
      refine x_cVI (t_fails2 T) okX5_fails clX5 q2159 q2161 qs23 dX5_servedIn_28 (Or.inl T.1) rfl rfl (by decide) (Nat.zero_le _) (Nat.zero_le _) (Nat.le_of_ble_eq_true rfl) (fun _ => ?_)
      refine x_if_eq 36 dX5_servedIn_31 (by decide) (fun z => False.elim (by revert z; decide)) (fun _ => ?_)
      refine x_iconst (nI 0) dX5_servedIn_34 (by decide) ?_
      refine x_iret rfl dX5_servedIn_35 ?_
      rw [show sp_servedIn g (nI k) = (2, nI 0) from by simp_all [sp_servedIn, nIl, nle_i, nlt_i]]
      exact ⟨rfl, by simp only [twQ2, upd_uu]; rfl⟩
  · skip
    refine x_iconst (nI 1) dX5_servedIn_9 (by decide) ?_
    refine x_goto 28 dX5_servedIn_10 (by decide) ?_
    refine x_cVI (t_fails1 T) okX5_fails clX5 q2159 q2161 qs23 dX5_servedIn_28 (Or.inl T.1) rfl rfl (by decide) (Nat.zero_le _) (Nat.zero_le _) (Nat.le_of_ble_eq_true rfl) (fun _ => ?_)
    refine x_if_eq 36 dX5_servedIn_31 (by decide) (fun z => False.elim (by revert z; decide)) (fun _ => ?_)
    refine x_iconst (nI 0) dX5_servedIn_34 (by decide) ?_
    refine x_iret rfl dX5_servedIn_35 ?_
    rw [show sp_servedIn g x = (1, nI 0) from by simp_all [sp_servedIn, nIl, nle_i, nlt_i]]
    exact ⟨rfl, by simp only [twQ2, upd_uu]; rfl⟩
theorem t_tray {G : GG} {h : AH} {a : Nat} {g : Nat → Int32} {S : Nat → Nat → Int32} {V : Nat → Int32} (T : Tw h a) (O : GOk g) (VO : VOk V) {x : Int32} : Cal G kX5_tray 2 0 0 [.ref a, .int x] (twh h a g S V) (rI (sp_tray g x).2.1 (twR h a g S V (nI 0) (nI 1) (nI 2) (sp_tray g x))) := by
  refine Cal.of (by decide +kernel) (Nat.le_of_ble_eq_true rfl) (fun c => ?_)
  have hb0 := O.b
  have hj0 := O.j
  have ho0 := O.o
  refine x_aload_n dX5_tray_0 rfl rfl ?_
  refine x_iload_n dX5_tray_1 rfl rfl ?_
  refine x_iconst (nI 0) dX5_tray_2 (by decide) ?_
  refine x_iconst (nI 1) dX5_tray_3 (by decide) ?_
  refine x_cSI t_in okX5_in q2156 q2157 dX5_tray_4 rfl rfl (by decide) (Nat.zero_le _) (Nat.zero_le _) (Nat.le_of_ble_eq_true rfl) (fun _ => ?_)
  refine x_if_eqB 14 dX5_tray_7 (by decide) (fun e1 => ?_) (fun e1 => ?_)
  · skip
    refine x_iconst (nI 1) dX5_tray_14 (by decide) ?_
    refine x_cVI (t_fails1 T) okX5_fails clX5 q2159 q2161 qs23 dX5_tray_15 (Or.inl T.1) rfl rfl (by decide) (Nat.zero_le _) (Nat.zero_le _) (Nat.le_of_ble_eq_true rfl) (fun _ => ?_)
    refine x_if_eq 23 dX5_tray_18 (by decide) (fun z => False.elim (by revert z; decide)) (fun _ => ?_)
    refine x_iconst (nI 0) dX5_tray_21 (by decide) ?_
    refine x_iret rfl dX5_tray_22 ?_
    rw [show sp_tray g x = iaeR g from by simp_all [sp_tray, ← pk_mul, ← nI_add, nIl, ixl, nle_i, nlt_i]]
    exact ⟨rfl, by simp only [twR, upd_uu]; try rfl⟩
  · skip
    refine x_iconst (nI 0) dX5_tray_10 (by decide) ?_
    refine x_goto 15 dX5_tray_11 (by decide) ?_
    refine x_cVI (t_fails0 T) okX5_fails clX5 q2159 q2161 qs23 dX5_tray_15 (Or.inl T.1) rfl rfl (by decide) (Nat.zero_le _) (Nat.zero_le _) (Nat.le_of_ble_eq_true rfl) (fun _ => ?_)
    refine x_if_eq 23 dX5_tray_18 (by decide) (fun _ => ?_) (fun z => False.elim (by revert z; decide))
    refine x_aload_n dX5_tray_23 rfl rfl ?_
    refine x_aload_n dX5_tray_24 rfl rfl ?_
    refine tg_g T (.inl q2082) dX5_tray_25 ?_
    refine x_cVV (t_keepsF T VO) okX5_keeps clX5 q2167 q2169 qs25 dX5_tray_28 (Or.inl T.1) rfl rfl (by decide) (Nat.zero_le _) (Nat.zero_le _) (Nat.le_of_ble_eq_true rfl) (fun _ => ?_)
    refine x_aload_n dX5_tray_31 rfl rfl ?_
    refine x_cVI (t_laid T) okX5_laid clX5 q2350 q2352 qs49 dX5_tray_32 (Or.inl T.1) rfl rfl (by decide) (Nat.zero_le _) (Nat.zero_le _) (Nat.le_of_ble_eq_true rfl) (fun _ => ?_)
    refine x_istore_n [(2, .int (nI (laidN g))), (0, .ref a), (1, .int x)] dX5_tray_35 rfl (by decide) rfl ?_
    refine x_aload_n dX5_tray_36 rfl rfl ?_
    refine tg_g T (.inl q2082) dX5_tray_37 ?_
    refine x_bipush (nI 11) dX5_tray_40 (by decide) ?_
    refine x_iload_n dX5_tray_42 rfl rfl ?_
    refine tst1 T rfl (by omega) dX5_tray_43 ?_
    refine x_iconst (nI 0) dX5_tray_44 (by decide) ?_
    refine x_istore_n [(3, .int (nI 0)), (2, .int (nI (laidN g))), (0, .ref a), (1, .int x)] dX5_tray_45 rfl (by decide) rfl ?_
    refine x_eq (h' := twh h a (trG (upd g 11 x) 0) (kpS S V g) (kpV V)) rfl rfl rfl ?_
    refine x_sub [2, 3, 1, 0] (lv' := [(0, .ref a), (1, .int x), (2, .int (nI (laidN g))), (3, .int (nI 0))]) rfl ?_
    refine x_bud (bc' := 0) (bs' := 0) (by first | exact Nat.zero_le _ | omega) (by first | exact Nat.zero_le _ | omega) ?_
    refine lpN (P := fun i => X G c kX5_tray 2 _ _ _ 0 0 (twh h a (trG (upd g 11 x) i) (kpS S V g) (kpV V)) 46 [(0, .ref a), (1, .int x), (2, .int (nI (laidN g))), (3, .int (nI i))] []) 4 (fun i hi ih => ?_) 0 (Nat.zero_le _)
    refine x_iload_n dX5_tray_46 rfl rfl ?_
    refine x_iconst (nI 4) dX5_tray_47 (by decide) ?_
    refine x_icmp_ge 67 dX5_tray_48 (by decide) (fun e2 => ?_) (fun e2 => ?_)
    · skip
      have ne2 := e2
      rw [nI_leI (by omega) (by omega)] at ne2
      refine x_iload_n dX5_tray_67 rfl rfl ?_
      refine x_iret rfl dX5_tray_68 ?_
      obtain rfl : i = 4 := by omega
      rw [show sp_tray g x = okR (nI (laidN g)) (trG (upd g 11 x) 4) from by simp_all [sp_tray, nIl]]
      exact ⟨rfl, rfl⟩
    · skip
      have ne2 := e2
      rw [nI_leI (by omega) (by omega)] at ne2
      refine x_aload_n dX5_tray_51 rfl rfl ?_
      refine tg_g T (.inl q2082) dX5_tray_52 ?_
      refine x_bipush (nI 12) dX5_tray_55 (by decide) ?_
      refine x_iload_n dX5_tray_57 rfl rfl ?_
      refine x_iadd dX5_tray_58 ?_
      refine x_val (nI_add _ _) ?_
      refine x_iconst (-1) dX5_tray_59 (by decide) ?_
      refine tst1 T rfl (by omega) dX5_tray_60 ?_
      refine x_iinc (j := 3) (nI (i + 1)) [(3, .int (nI (i + 1))), (0, .ref a), (1, .int x), (2, .int (nI (laidN g)))] dX5_tray_61 rfl (by first | exact nI_add _ _ | decide) (by decide) rfl ?_
      refine x_goto 46 dX5_tray_64 (by decide) ?_
      refine x_sub [1, 2, 3, 0] (lv' := [(0, .ref a), (1, .int x), (2, .int (nI (laidN g))), (3, .int (nI (i + 1)))]) rfl ?_
      refine x_eq (h' := twh h a (trG (upd g 11 x) (i + 1)) (kpS S V g) (kpV V)) rfl rfl rfl ?_
      exact ih (by omega)
theorem t_layT {G : GG} {h : AH} {a : Nat} {g : Nat → Int32} {S : Nat → Nat → Int32} {V : Nat → Int32} (T : Tw h a) (O : GOk g) (VO : VOk V) {x : Int32} {y : Int32} {z : Int32} : Cal G kX5_lay 2 0 0 [.ref a, .int x, .int y, .int z] (twh h a g S V) (rI (sp_lay g x y z).2.1 (twR h a g S V (nI 1) (nI 2) (nI 3) (sp_lay g x y z))) := by
  refine Cal.of (by decide +kernel) (Nat.le_of_ble_eq_true rfl) (fun c => ?_)
  have hb0 := O.b
  have hj0 := O.j
  have ho0 := O.o
  refine x_iload_n dX5_lay_0 rfl rfl ?_
  refine x_iconst (nI 0) dX5_lay_1 (by decide) ?_
  refine x_iconst (nI 3) dX5_lay_2 (by decide) ?_
  refine x_cSI t_in okX5_in q2156 q2157 dX5_lay_3 rfl rfl (by decide) (Nat.zero_le _) (Nat.zero_le _) (Nat.le_of_ble_eq_true rfl) (fun _ => ?_)
  refine x_if_eqB 38 dX5_lay_6 (by decide) (fun e1 => ?_) (fun e1 => ?_)
  · skip
    refine x_iconst (nI 0) dX5_lay_38 (by decide) ?_
    refine x_istore [(4, .int (nI 0)), (0, .ref a), (1, .int x), (2, .int y), (3, .int z)] dX5_lay_39 (by decide) rfl ?_
    refine x_aload_n dX5_lay_41 rfl rfl ?_
    refine x_iload dX5_lay_42 rfl ?_
    refine x_if_ne 51 dX5_lay_44 (by decide) (fun z => False.elim (by revert z; decide)) (fun _ => ?_)
    refine x_iconst (nI 1) dX5_lay_47 (by decide) ?_
    refine x_goto 65 dX5_lay_48 (by decide) ?_
    refine x_cVI (t_fails1 T) okX5_fails clX5 q2159 q2161 qs23 dX5_lay_65 (Or.inl T.1) rfl rfl (by decide) (Nat.zero_le _) (Nat.zero_le _) (Nat.le_of_ble_eq_true rfl) (fun _ => ?_)
    refine x_if_eq 73 dX5_lay_68 (by decide) (fun z => False.elim (by revert z; decide)) (fun _ => ?_)
    refine x_iconst (nI 0) dX5_lay_71 (by decide) ?_
    refine x_iret rfl dX5_lay_72 ?_
    rw [show sp_lay g x y z = iobR g from by simp_all [sp_lay, isThere, nIl, nle_i, nlt_i]]
    exact ⟨rfl, by simp only [twR, upd_uu]; try rfl⟩
  · skip
    obtain ⟨k, hk, rfl⟩ := inB_n (n := 3) (by decide) e1
    have xk : (nI k).toNatClampNeg = k := ix_nI (by omega)
    refine x_iload_n dX5_lay_9 rfl rfl ?_
    refine x_if_ne 21 dX5_lay_10 (by decide) (fun e2 => ?_) (fun e2 => ?_)
    · skip
      refine x_iload_n dX5_lay_21 rfl rfl ?_
      refine x_iconst (nI 1) dX5_lay_22 (by decide) ?_
      refine x_icmp_ne 34 dX5_lay_23 (by decide) (fun e3 => ?_) (fun e3 => ?_)
      · skip
        refine x_iconst (nI 1) dX5_lay_34 (by decide) ?_
        refine x_goto 39 dX5_lay_35 (by decide) ?_
        refine x_istore [(4, .int (nI 1)), (0, .ref a), (1, .int (nI k)), (2, .int y), (3, .int z)] dX5_lay_39 (by decide) rfl ?_
        refine x_aload_n dX5_lay_41 rfl rfl ?_
        refine x_iload dX5_lay_42 rfl ?_
        refine x_if_ne 51 dX5_lay_44 (by decide) (fun _ => ?_) (fun z => False.elim (by revert z; decide))
        refine x_iload_n dX5_lay_51 rfl rfl ?_
        refine x_iconst (nI 0) dX5_lay_52 (by decide) ?_
        refine x_iconst (nI 1) dX5_lay_53 (by decide) ?_
        refine x_cSI t_in okX5_in q2156 q2157 dX5_lay_54 rfl rfl (by decide) (Nat.zero_le _) (Nat.zero_le _) (Nat.le_of_ble_eq_true rfl) (fun _ => ?_)
        refine x_if_eqB 64 dX5_lay_57 (by decide) (fun e4 => ?_) (fun e4 => ?_)
        · skip
          refine x_iconst (nI 2) dX5_lay_64 (by decide) ?_
          refine x_cVI (t_fails2 T) okX5_fails clX5 q2159 q2161 qs23 dX5_lay_65 (Or.inl T.1) rfl rfl (by decide) (Nat.zero_le _) (Nat.zero_le _) (Nat.le_of_ble_eq_true rfl) (fun _ => ?_)
          refine x_if_eq 73 dX5_lay_68 (by decide) (fun z => False.elim (by revert z; decide)) (fun _ => ?_)
          refine x_iconst (nI 0) dX5_lay_71 (by decide) ?_
          refine x_iret rfl dX5_lay_72 ?_
          rw [show sp_lay g (nI k) y z = iaeR g from by simp_all [sp_lay, isThere, nIl, nle_i, nlt_i]]
          exact ⟨rfl, by simp only [twR, upd_uu]; try rfl⟩
        · skip
          refine x_iconst (nI 0) dX5_lay_60 (by decide) ?_
          refine x_goto 65 dX5_lay_61 (by decide) ?_
          refine x_cVI (t_fails0 T) okX5_fails clX5 q2159 q2161 qs23 dX5_lay_65 (Or.inl T.1) rfl rfl (by decide) (Nat.zero_le _) (Nat.zero_le _) (Nat.le_of_ble_eq_true rfl) (fun _ => ?_)
          refine x_if_eq 73 dX5_lay_68 (by decide) (fun _ => ?_) (fun z => False.elim (by revert z; decide))
          refine x_aload_n dX5_lay_73 rfl rfl ?_
          refine tg_g T (.inl q2082) dX5_lay_74 ?_
          refine x_bipush (nI 11) dX5_lay_77 (by decide) ?_
          refine tld1 T rfl (by omega) dX5_lay_79 ?_
          refine x_iload_n dX5_lay_80 rfl rfl ?_
          refine x_icmp_eq 99 dX5_lay_81 (by decide) (fun e5 => ?_) (fun e5 => ?_)
          · skip
            refine x_iconst (nI 0) dX5_lay_99 (by decide) ?_
            refine x_istore [(5, .int (nI 0)), (4, .int (nI 1)), (0, .ref a), (1, .int (nI k)), (2, .int y), (3, .int z)] dX5_lay_100 (by decide) rfl ?_
            refine x_sub [2, 3, 4, 5, 0] (lv' := [(0, .ref a), (1, .int (nI k)), (2, .int y), (3, .int z), (5, .int (nI 0))]) rfl ?_
            refine x_bud (bc' := 0) (bs' := 0) (by first | exact Nat.zero_le _ | omega) (by first | exact Nat.zero_le _ | omega) ?_
            refine lpN (P := fun i => lf (trP g z) i = none → X G c kX5_lay 2 _ _ _ 0 0 (twh h a g S (upd V 34 (nI 0))) 102 [(0, .ref a), (1, .int (nI k)), (2, .int y), (3, .int z), (5, .int (nI i))] []) 4 (fun i hi ih hl => ?_) 0 (Nat.zero_le _) rfl
            refine x_iload dX5_lay_102 rfl ?_
            refine x_iconst (nI 4) dX5_lay_104 (by decide) ?_
            refine x_icmp_ge 138 dX5_lay_105 (by decide) (fun e6 => ?_) (fun e6 => ?_)
            · skip
              have ne6 := e6
              rw [nI_leI (by omega) (by omega)] at ne6
              refine x_aload_n dX5_lay_138 rfl rfl ?_
              refine x_aload_n dX5_lay_139 rfl rfl ?_
              refine tg_g T (.inl q2082) dX5_lay_140 ?_
              refine x_cVV (t_keepsF T VO) okX5_keeps clX5 q2167 q2169 qs25 dX5_lay_143 (Or.inl T.1) rfl rfl (by decide) (Nat.zero_le _) (Nat.zero_le _) (Nat.le_of_ble_eq_true rfl) (fun _ => ?_)
              refine x_aload_n dX5_lay_146 rfl rfl ?_
              refine tg_g T (.inl q2082) dX5_lay_147 ?_
              refine x_bipush (nI 12) dX5_lay_150 (by decide) ?_
              refine x_iload_n dX5_lay_152 rfl rfl ?_
              refine x_iadd dX5_lay_153 ?_
              refine x_val (nI_add _ _) ?_
              refine x_iload_n dX5_lay_154 rfl rfl ?_
              refine tst1 T rfl (by omega) dX5_lay_155 ?_
              refine x_aload_n dX5_lay_156 rfl rfl ?_
              refine x_cVI (t_laid T) okX5_laid clX5 q2350 q2352 qs49 dX5_lay_157 (Or.inl T.1) rfl rfl (by decide) (Nat.zero_le _) (Nat.zero_le _) (Nat.le_of_ble_eq_true rfl) (fun _ => ?_)
              refine x_iret rfl dX5_lay_160 ?_
              obtain rfl : i = 4 := by omega
              rw [show sp_lay g (nI k) y z = okR (nI (laidN (layG g k z))) (layG g k z) from by simp_all [sp_lay, isThere, nIl, nle_i, nlt_i]]
              exact ⟨rfl, rfl⟩
            · skip
              have ne6 := e6
              rw [nI_leI (by omega) (by omega)] at ne6
              refine x_aload_n dX5_lay_108 rfl rfl ?_
              refine tg_g T (.inl q2082) dX5_lay_109 ?_
              refine x_bipush (nI 12) dX5_lay_112 (by decide) ?_
              refine x_iload dX5_lay_114 rfl ?_
              refine x_iadd dX5_lay_116 ?_
              refine x_val (nI_add _ _) ?_
              refine tld1 T rfl (by omega) dX5_lay_117 ?_
              refine x_iload_n dX5_lay_118 rfl rfl ?_
              refine x_icmp_ne 132 dX5_lay_119 (by decide) (fun e7 => ?_) (fun e7 => ?_)
              · skip
                refine x_iinc (j := 4) (nI (i + 1)) [(5, .int (nI (i + 1))), (0, .ref a), (1, .int (nI k)), (2, .int y), (3, .int z)] dX5_lay_132 rfl (by first | exact nI_add _ _ | decide) (by decide) rfl ?_
                refine x_goto 102 dX5_lay_135 (by decide) ?_
                refine x_sub [1, 2, 3, 4, 0] (lv' := [(0, .ref a), (1, .int (nI k)), (2, .int y), (3, .int z), (5, .int (nI (i + 1)))]) rfl ?_
                have hp : trP g z i = false := by simp_all [trP]
                exact ih (by omega) (lf_step hl hp)
              · skip
                refine x_aload_n dX5_lay_122 rfl rfl ?_
                refine x_iconst (nI 3) dX5_lay_123 (by decide) ?_
                refine x_bipush (nI 13) dX5_lay_124 (by decide) ?_
                refine x_iload dX5_lay_126 rfl ?_
                refine x_cVI (t_refuses T) okX5_refuses clX5 q2163 q2165 qs24 dX5_lay_128 (Or.inl T.1) rfl rfl (by decide) (Nat.zero_le _) (Nat.zero_le _) (Nat.le_of_ble_eq_true rfl) (fun _ => ?_)
                refine x_iret rfl dX5_lay_131 ?_
                have hp : trP g z i = true := by simp_all [trP]
                have hf : lf (trP g z) 4 = some i := lf_found hl hp (by omega)
                rw [show sp_lay g (nI k) y z = refR 13 (nI i) g from by simp_all [sp_lay, isThere, nIl, nle_i, nlt_i]]
                exact ⟨rfl, by simp only [twR, upd_uu]; try rfl⟩
          · skip
            refine x_aload_n dX5_lay_84 rfl rfl ?_
            refine x_iconst (nI 3) dX5_lay_85 (by decide) ?_
            refine x_bipush (nI 12) dX5_lay_86 (by decide) ?_
            refine x_aload_n dX5_lay_88 rfl rfl ?_
            refine tg_g T (.inl q2082) dX5_lay_89 ?_
            refine x_bipush (nI 11) dX5_lay_92 (by decide) ?_
            refine tld1 T rfl (by omega) dX5_lay_94 ?_
            refine x_cVI (t_refuses T) okX5_refuses clX5 q2163 q2165 qs24 dX5_lay_95 (Or.inl T.1) rfl rfl (by decide) (Nat.zero_le _) (Nat.zero_le _) (Nat.le_of_ble_eq_true rfl) (fun _ => ?_)
            refine x_iret rfl dX5_lay_98 ?_
            rw [show sp_lay g (nI k) y z = refR 12 (g 11) g from by simp_all [sp_lay, isThere, nIl, nle_i, nlt_i]]
            exact ⟨rfl, by simp only [twR, upd_uu]; try rfl⟩
      · skip
        refine x_aload_n dX5_lay_26 rfl rfl ?_
        refine x_iload_n dX5_lay_27 rfl rfl ?_
        refine x_cVI (t_isJar T) okX5_isJar clX5 q2247 q2249 qs34 dX5_lay_28 (Or.inl T.1) rfl rfl (by decide) (Nat.zero_le _) (Nat.zero_le _) (Nat.le_of_ble_eq_true rfl) (fun _ => ?_)
        refine x_if_eqB 38 dX5_lay_31 (by decide) (fun e8 => ?_) (fun e8 => ?_)
        · skip
          refine x_iconst (nI 0) dX5_lay_38 (by decide) ?_
          refine x_istore [(4, .int (nI 0)), (0, .ref a), (1, .int (nI k)), (2, .int y), (3, .int z)] dX5_lay_39 (by decide) rfl ?_
          refine x_aload_n dX5_lay_41 rfl rfl ?_
          refine x_iload dX5_lay_42 rfl ?_
          refine x_if_ne 51 dX5_lay_44 (by decide) (fun z => False.elim (by revert z; decide)) (fun _ => ?_)
          refine x_iconst (nI 1) dX5_lay_47 (by decide) ?_
          refine x_goto 65 dX5_lay_48 (by decide) ?_
          refine x_cVI (t_fails1 T) okX5_fails clX5 q2159 q2161 qs23 dX5_lay_65 (Or.inl T.1) rfl rfl (by decide) (Nat.zero_le _) (Nat.zero_le _) (Nat.le_of_ble_eq_true rfl) (fun _ => ?_)
          refine x_if_eq 73 dX5_lay_68 (by decide) (fun z => False.elim (by revert z; decide)) (fun _ => ?_)
          refine x_iconst (nI 0) dX5_lay_71 (by decide) ?_
          refine x_iret rfl dX5_lay_72 ?_
          rw [show sp_lay g (nI k) y z = iobR g from by simp_all [sp_lay, isThere, nIl, nle_i, nlt_i]]
          exact ⟨rfl, by simp only [twR, upd_uu]; try rfl⟩
        · skip
          refine x_iconst (nI 1) dX5_lay_34 (by decide) ?_
          refine x_goto 39 dX5_lay_35 (by decide) ?_
          refine x_istore [(4, .int (nI 1)), (0, .ref a), (1, .int (nI k)), (2, .int y), (3, .int z)] dX5_lay_39 (by decide) rfl ?_
          refine x_aload_n dX5_lay_41 rfl rfl ?_
          refine x_iload dX5_lay_42 rfl ?_
          refine x_if_ne 51 dX5_lay_44 (by decide) (fun _ => ?_) (fun z => False.elim (by revert z; decide))
          refine x_iload_n dX5_lay_51 rfl rfl ?_
          refine x_iconst (nI 0) dX5_lay_52 (by decide) ?_
          refine x_iconst (nI 1) dX5_lay_53 (by decide) ?_
          refine x_cSI t_in okX5_in q2156 q2157 dX5_lay_54 rfl rfl (by decide) (Nat.zero_le _) (Nat.zero_le _) (Nat.le_of_ble_eq_true rfl) (fun _ => ?_)
          refine x_if_eqB 64 dX5_lay_57 (by decide) (fun e9 => ?_) (fun e9 => ?_)
          · skip
            refine x_iconst (nI 2) dX5_lay_64 (by decide) ?_
            refine x_cVI (t_fails2 T) okX5_fails clX5 q2159 q2161 qs23 dX5_lay_65 (Or.inl T.1) rfl rfl (by decide) (Nat.zero_le _) (Nat.zero_le _) (Nat.le_of_ble_eq_true rfl) (fun _ => ?_)
            refine x_if_eq 73 dX5_lay_68 (by decide) (fun z => False.elim (by revert z; decide)) (fun _ => ?_)
            refine x_iconst (nI 0) dX5_lay_71 (by decide) ?_
            refine x_iret rfl dX5_lay_72 ?_
            rw [show sp_lay g (nI k) y z = iaeR g from by simp_all [sp_lay, isThere, nIl, nle_i, nlt_i]]
            exact ⟨rfl, by simp only [twR, upd_uu]; try rfl⟩
          · skip
            refine x_iconst (nI 0) dX5_lay_60 (by decide) ?_
            refine x_goto 65 dX5_lay_61 (by decide) ?_
            refine x_cVI (t_fails0 T) okX5_fails clX5 q2159 q2161 qs23 dX5_lay_65 (Or.inl T.1) rfl rfl (by decide) (Nat.zero_le _) (Nat.zero_le _) (Nat.le_of_ble_eq_true rfl) (fun _ => ?_)
            refine x_if_eq 73 dX5_lay_68 (by decide) (fun _ => ?_) (fun z => False.elim (by revert z; decide))
            refine x_aload_n dX5_lay_73 rfl rfl ?_
            refine tg_g T (.inl q2082) dX5_lay_74 ?_
            refine x_bipush (nI 11) dX5_lay_77 (by decide) ?_
            refine tld1 T rfl (by omega) dX5_lay_79 ?_
            refine x_iload_n dX5_lay_80 rfl rfl ?_
            refine x_icmp_eq 99 dX5_lay_81 (by decide) (fun e10 => ?_) (fun e10 => ?_)
            · skip
              refine x_iconst (nI 0) dX5_lay_99 (by decide) ?_
              refine x_istore [(5, .int (nI 0)), (4, .int (nI 1)), (0, .ref a), (1, .int (nI k)), (2, .int y), (3, .int z)] dX5_lay_100 (by decide) rfl ?_
              refine x_sub [2, 3, 4, 5, 0] (lv' := [(0, .ref a), (1, .int (nI k)), (2, .int y), (3, .int z), (5, .int (nI 0))]) rfl ?_
              refine x_bud (bc' := 0) (bs' := 0) (by first | exact Nat.zero_le _ | omega) (by first | exact Nat.zero_le _ | omega) ?_
              refine lpN (P := fun i => lf (trP g z) i = none → X G c kX5_lay 2 _ _ _ 0 0 (twh h a g S (upd V 34 (nI 0))) 102 [(0, .ref a), (1, .int (nI k)), (2, .int y), (3, .int z), (5, .int (nI i))] []) 4 (fun i hi ih hl => ?_) 0 (Nat.zero_le _) rfl
              refine x_iload dX5_lay_102 rfl ?_
              refine x_iconst (nI 4) dX5_lay_104 (by decide) ?_
              refine x_icmp_ge 138 dX5_lay_105 (by decide) (fun e11 => ?_) (fun e11 => ?_)
              · skip
                have ne11 := e11
                rw [nI_leI (by omega) (by omega)] at ne11
                refine x_aload_n dX5_lay_138 rfl rfl ?_
                refine x_aload_n dX5_lay_139 rfl rfl ?_
                refine tg_g T (.inl q2082) dX5_lay_140 ?_
                refine x_cVV (t_keepsF T VO) okX5_keeps clX5 q2167 q2169 qs25 dX5_lay_143 (Or.inl T.1) rfl rfl (by decide) (Nat.zero_le _) (Nat.zero_le _) (Nat.le_of_ble_eq_true rfl) (fun _ => ?_)
                refine x_aload_n dX5_lay_146 rfl rfl ?_
                refine tg_g T (.inl q2082) dX5_lay_147 ?_
                refine x_bipush (nI 12) dX5_lay_150 (by decide) ?_
                refine x_iload_n dX5_lay_152 rfl rfl ?_
                refine x_iadd dX5_lay_153 ?_
                refine x_val (nI_add _ _) ?_
                refine x_iload_n dX5_lay_154 rfl rfl ?_
                refine tst1 T rfl (by omega) dX5_lay_155 ?_
                refine x_aload_n dX5_lay_156 rfl rfl ?_
                refine x_cVI (t_laid T) okX5_laid clX5 q2350 q2352 qs49 dX5_lay_157 (Or.inl T.1) rfl rfl (by decide) (Nat.zero_le _) (Nat.zero_le _) (Nat.le_of_ble_eq_true rfl) (fun _ => ?_)
                refine x_iret rfl dX5_lay_160 ?_
                obtain rfl : i = 4 := by omega
                rw [show sp_lay g (nI k) y z = okR (nI (laidN (layG g k z))) (layG g k z) from by simp_all [sp_lay, isThere, nIl, nle_i, nlt_i]]
                exact ⟨rfl, rfl⟩
              · skip
                have ne11 := e11
                rw [nI_leI (by omega) (by omega)] at ne11
                refine x_aload_n dX5_lay_108 rfl rfl ?_
                refine tg_g T (.inl q2082) dX5_lay_109 ?_
                refine x_bipush (nI 12) dX5_lay_112 (by decide) ?_
                refine x_iload dX5_lay_114 rfl ?_
                refine x_iadd dX5_lay_116 ?_
                refine x_val (nI_add _ _) ?_
                refine tld1 T rfl (by omega) dX5_lay_117 ?_
                refine x_iload_n dX5_lay_118 rfl rfl ?_
                refine x_icmp_ne 132 dX5_lay_119 (by decide) (fun e12 => ?_) (fun e12 => ?_)
                · skip
                  refine x_iinc (j := 4) (nI (i + 1)) [(5, .int (nI (i + 1))), (0, .ref a), (1, .int (nI k)), (2, .int y), (3, .int z)] dX5_lay_132 rfl (by first | exact nI_add _ _ | decide) (by decide) rfl ?_
                  refine x_goto 102 dX5_lay_135 (by decide) ?_
                  refine x_sub [1, 2, 3, 4, 0] (lv' := [(0, .ref a), (1, .int (nI k)), (2, .int y), (3, .int z), (5, .int (nI (i + 1)))]) rfl ?_
                  have hp : trP g z i = false := by simp_all [trP]
                  exact ih (by omega) (lf_step hl hp)
                · skip
                  refine x_aload_n dX5_lay_122 rfl rfl ?_
                  refine x_iconst (nI 3) dX5_lay_123 (by decide) ?_
                  refine x_bipush (nI 13) dX5_lay_124 (by decide) ?_
                  refine x_iload dX5_lay_126 rfl ?_
                  refine x_cVI (t_refuses T) okX5_refuses clX5 q2163 q2165 qs24 dX5_lay_128 (Or.inl T.1) rfl rfl (by decide) (Nat.zero_le _) (Nat.zero_le _) (Nat.le_of_ble_eq_true rfl) (fun _ => ?_)
                  refine x_iret rfl dX5_lay_131 ?_
                  have hp : trP g z i = true := by simp_all [trP]
                  have hf : lf (trP g z) 4 = some i := lf_found hl hp (by omega)
                  rw [show sp_lay g (nI k) y z = refR 13 (nI i) g from by simp_all [sp_lay, isThere, nIl, nle_i, nlt_i]]
                  exact ⟨rfl, by simp only [twR, upd_uu]; try rfl⟩
            · skip
              refine x_aload_n dX5_lay_84 rfl rfl ?_
              refine x_iconst (nI 3) dX5_lay_85 (by decide) ?_
              refine x_bipush (nI 12) dX5_lay_86 (by decide) ?_
              refine x_aload_n dX5_lay_88 rfl rfl ?_
              refine tg_g T (.inl q2082) dX5_lay_89 ?_
              refine x_bipush (nI 11) dX5_lay_92 (by decide) ?_
              refine tld1 T rfl (by omega) dX5_lay_94 ?_
              refine x_cVI (t_refuses T) okX5_refuses clX5 q2163 q2165 qs24 dX5_lay_95 (Or.inl T.1) rfl rfl (by decide) (Nat.zero_le _) (Nat.zero_le _) (Nat.le_of_ble_eq_true rfl) (fun _ => ?_)
              refine x_iret rfl dX5_lay_98 ?_
              rw [show sp_lay g (nI k) y z = refR 12 (g 11) g from by simp_all [sp_lay, isThere, nIl, nle_i, nlt_i]]
              exact ⟨rfl, by simp only [twR, upd_uu]; try rfl⟩
    · skip
      refine x_aload_n dX5_lay_13 rfl rfl ?_
      refine x_iload_n dX5_lay_14 rfl rfl ?_
      refine x_cVI (t_isBatch T) okX5_isBatch clX5 q2219 q2221 qs30 dX5_lay_15 (Or.inl T.1) rfl rfl (by decide) (Nat.zero_le _) (Nat.zero_le _) (Nat.le_of_ble_eq_true rfl) (fun _ => ?_)
      refine x_if_eqB 38 dX5_lay_18 (by decide) (fun e13 => ?_) (fun e13 => ?_)
      · skip
        refine x_iconst (nI 0) dX5_lay_38 (by decide) ?_
        refine x_istore [(4, .int (nI 0)), (0, .ref a), (1, .int (nI k)), (2, .int y), (3, .int z)] dX5_lay_39 (by decide) rfl ?_
        refine x_aload_n dX5_lay_41 rfl rfl ?_
        refine x_iload dX5_lay_42 rfl ?_
        refine x_if_ne 51 dX5_lay_44 (by decide) (fun z => False.elim (by revert z; decide)) (fun _ => ?_)
        refine x_iconst (nI 1) dX5_lay_47 (by decide) ?_
        refine x_goto 65 dX5_lay_48 (by decide) ?_
        refine x_cVI (t_fails1 T) okX5_fails clX5 q2159 q2161 qs23 dX5_lay_65 (Or.inl T.1) rfl rfl (by decide) (Nat.zero_le _) (Nat.zero_le _) (Nat.le_of_ble_eq_true rfl) (fun _ => ?_)
        refine x_if_eq 73 dX5_lay_68 (by decide) (fun z => False.elim (by revert z; decide)) (fun _ => ?_)
        refine x_iconst (nI 0) dX5_lay_71 (by decide) ?_
        refine x_iret rfl dX5_lay_72 ?_
        rw [show sp_lay g (nI k) y z = iobR g from by simp_all [sp_lay, isThere, nIl, nle_i, nlt_i]]
        exact ⟨rfl, by simp only [twR, upd_uu]; try rfl⟩
      · skip
        refine x_iload_n dX5_lay_21 rfl rfl ?_
        refine x_iconst (nI 1) dX5_lay_22 (by decide) ?_
        refine x_icmp_ne 34 dX5_lay_23 (by decide) (fun e14 => ?_) (fun e14 => ?_)
        · skip
          refine x_iconst (nI 1) dX5_lay_34 (by decide) ?_
          refine x_goto 39 dX5_lay_35 (by decide) ?_
          refine x_istore [(4, .int (nI 1)), (0, .ref a), (1, .int (nI k)), (2, .int y), (3, .int z)] dX5_lay_39 (by decide) rfl ?_
          refine x_aload_n dX5_lay_41 rfl rfl ?_
          refine x_iload dX5_lay_42 rfl ?_
          refine x_if_ne 51 dX5_lay_44 (by decide) (fun _ => ?_) (fun z => False.elim (by revert z; decide))
          refine x_iload_n dX5_lay_51 rfl rfl ?_
          refine x_iconst (nI 0) dX5_lay_52 (by decide) ?_
          refine x_iconst (nI 1) dX5_lay_53 (by decide) ?_
          refine x_cSI t_in okX5_in q2156 q2157 dX5_lay_54 rfl rfl (by decide) (Nat.zero_le _) (Nat.zero_le _) (Nat.le_of_ble_eq_true rfl) (fun _ => ?_)
          refine x_if_eqB 64 dX5_lay_57 (by decide) (fun e15 => ?_) (fun e15 => ?_)
          · skip
            refine x_iconst (nI 2) dX5_lay_64 (by decide) ?_
            refine x_cVI (t_fails2 T) okX5_fails clX5 q2159 q2161 qs23 dX5_lay_65 (Or.inl T.1) rfl rfl (by decide) (Nat.zero_le _) (Nat.zero_le _) (Nat.le_of_ble_eq_true rfl) (fun _ => ?_)
            refine x_if_eq 73 dX5_lay_68 (by decide) (fun z => False.elim (by revert z; decide)) (fun _ => ?_)
            refine x_iconst (nI 0) dX5_lay_71 (by decide) ?_
            refine x_iret rfl dX5_lay_72 ?_
            rw [show sp_lay g (nI k) y z = iaeR g from by simp_all [sp_lay, isThere, nIl, nle_i, nlt_i]]
            exact ⟨rfl, by simp only [twR, upd_uu]; try rfl⟩
          · skip
            refine x_iconst (nI 0) dX5_lay_60 (by decide) ?_
            refine x_goto 65 dX5_lay_61 (by decide) ?_
            refine x_cVI (t_fails0 T) okX5_fails clX5 q2159 q2161 qs23 dX5_lay_65 (Or.inl T.1) rfl rfl (by decide) (Nat.zero_le _) (Nat.zero_le _) (Nat.le_of_ble_eq_true rfl) (fun _ => ?_)
            refine x_if_eq 73 dX5_lay_68 (by decide) (fun _ => ?_) (fun z => False.elim (by revert z; decide))
            refine x_aload_n dX5_lay_73 rfl rfl ?_
            refine tg_g T (.inl q2082) dX5_lay_74 ?_
            refine x_bipush (nI 11) dX5_lay_77 (by decide) ?_
            refine tld1 T rfl (by omega) dX5_lay_79 ?_
            refine x_iload_n dX5_lay_80 rfl rfl ?_
            refine x_icmp_eq 99 dX5_lay_81 (by decide) (fun e16 => ?_) (fun e16 => ?_)
            · skip
              refine x_iconst (nI 0) dX5_lay_99 (by decide) ?_
              refine x_istore [(5, .int (nI 0)), (4, .int (nI 1)), (0, .ref a), (1, .int (nI k)), (2, .int y), (3, .int z)] dX5_lay_100 (by decide) rfl ?_
              refine x_sub [2, 3, 4, 5, 0] (lv' := [(0, .ref a), (1, .int (nI k)), (2, .int y), (3, .int z), (5, .int (nI 0))]) rfl ?_
              refine x_bud (bc' := 0) (bs' := 0) (by first | exact Nat.zero_le _ | omega) (by first | exact Nat.zero_le _ | omega) ?_
              refine lpN (P := fun i => lf (trP g z) i = none → X G c kX5_lay 2 _ _ _ 0 0 (twh h a g S (upd V 34 (nI 0))) 102 [(0, .ref a), (1, .int (nI k)), (2, .int y), (3, .int z), (5, .int (nI i))] []) 4 (fun i hi ih hl => ?_) 0 (Nat.zero_le _) rfl
              refine x_iload dX5_lay_102 rfl ?_
              refine x_iconst (nI 4) dX5_lay_104 (by decide) ?_
              refine x_icmp_ge 138 dX5_lay_105 (by decide) (fun e17 => ?_) (fun e17 => ?_)
              · skip
                have ne17 := e17
                rw [nI_leI (by omega) (by omega)] at ne17
                refine x_aload_n dX5_lay_138 rfl rfl ?_
                refine x_aload_n dX5_lay_139 rfl rfl ?_
                refine tg_g T (.inl q2082) dX5_lay_140 ?_
                refine x_cVV (t_keepsF T VO) okX5_keeps clX5 q2167 q2169 qs25 dX5_lay_143 (Or.inl T.1) rfl rfl (by decide) (Nat.zero_le _) (Nat.zero_le _) (Nat.le_of_ble_eq_true rfl) (fun _ => ?_)
                refine x_aload_n dX5_lay_146 rfl rfl ?_
                refine tg_g T (.inl q2082) dX5_lay_147 ?_
                refine x_bipush (nI 12) dX5_lay_150 (by decide) ?_
                refine x_iload_n dX5_lay_152 rfl rfl ?_
                refine x_iadd dX5_lay_153 ?_
                refine x_val (nI_add _ _) ?_
                refine x_iload_n dX5_lay_154 rfl rfl ?_
                refine tst1 T rfl (by omega) dX5_lay_155 ?_
                refine x_aload_n dX5_lay_156 rfl rfl ?_
                refine x_cVI (t_laid T) okX5_laid clX5 q2350 q2352 qs49 dX5_lay_157 (Or.inl T.1) rfl rfl (by decide) (Nat.zero_le _) (Nat.zero_le _) (Nat.le_of_ble_eq_true rfl) (fun _ => ?_)
                refine x_iret rfl dX5_lay_160 ?_
                obtain rfl : i = 4 := by omega
                rw [show sp_lay g (nI k) y z = okR (nI (laidN (layG g k z))) (layG g k z) from by simp_all [sp_lay, isThere, nIl, nle_i, nlt_i]]
                exact ⟨rfl, rfl⟩
              · skip
                have ne17 := e17
                rw [nI_leI (by omega) (by omega)] at ne17
                refine x_aload_n dX5_lay_108 rfl rfl ?_
                refine tg_g T (.inl q2082) dX5_lay_109 ?_
                refine x_bipush (nI 12) dX5_lay_112 (by decide) ?_
                refine x_iload dX5_lay_114 rfl ?_
                refine x_iadd dX5_lay_116 ?_
                refine x_val (nI_add _ _) ?_
                refine tld1 T rfl (by omega) dX5_lay_117 ?_
                refine x_iload_n dX5_lay_118 rfl rfl ?_
                refine x_icmp_ne 132 dX5_lay_119 (by decide) (fun e18 => ?_) (fun e18 => ?_)
                · skip
                  refine x_iinc (j := 4) (nI (i + 1)) [(5, .int (nI (i + 1))), (0, .ref a), (1, .int (nI k)), (2, .int y), (3, .int z)] dX5_lay_132 rfl (by first | exact nI_add _ _ | decide) (by decide) rfl ?_
                  refine x_goto 102 dX5_lay_135 (by decide) ?_
                  refine x_sub [1, 2, 3, 4, 0] (lv' := [(0, .ref a), (1, .int (nI k)), (2, .int y), (3, .int z), (5, .int (nI (i + 1)))]) rfl ?_
                  have hp : trP g z i = false := by simp_all [trP]
                  exact ih (by omega) (lf_step hl hp)
                · skip
                  refine x_aload_n dX5_lay_122 rfl rfl ?_
                  refine x_iconst (nI 3) dX5_lay_123 (by decide) ?_
                  refine x_bipush (nI 13) dX5_lay_124 (by decide) ?_
                  refine x_iload dX5_lay_126 rfl ?_
                  refine x_cVI (t_refuses T) okX5_refuses clX5 q2163 q2165 qs24 dX5_lay_128 (Or.inl T.1) rfl rfl (by decide) (Nat.zero_le _) (Nat.zero_le _) (Nat.le_of_ble_eq_true rfl) (fun _ => ?_)
                  refine x_iret rfl dX5_lay_131 ?_
                  have hp : trP g z i = true := by simp_all [trP]
                  have hf : lf (trP g z) 4 = some i := lf_found hl hp (by omega)
                  rw [show sp_lay g (nI k) y z = refR 13 (nI i) g from by simp_all [sp_lay, isThere, nIl, nle_i, nlt_i]]
                  exact ⟨rfl, by simp only [twR, upd_uu]; try rfl⟩
            · skip
              refine x_aload_n dX5_lay_84 rfl rfl ?_
              refine x_iconst (nI 3) dX5_lay_85 (by decide) ?_
              refine x_bipush (nI 12) dX5_lay_86 (by decide) ?_
              refine x_aload_n dX5_lay_88 rfl rfl ?_
              refine tg_g T (.inl q2082) dX5_lay_89 ?_
              refine x_bipush (nI 11) dX5_lay_92 (by decide) ?_
              refine tld1 T rfl (by omega) dX5_lay_94 ?_
              refine x_cVI (t_refuses T) okX5_refuses clX5 q2163 q2165 qs24 dX5_lay_95 (Or.inl T.1) rfl rfl (by decide) (Nat.zero_le _) (Nat.zero_le _) (Nat.le_of_ble_eq_true rfl) (fun _ => ?_)
              refine x_iret rfl dX5_lay_98 ?_
              rw [show sp_lay g (nI k) y z = refR 12 (g 11) g from by simp_all [sp_lay, isThere, nIl, nle_i, nlt_i]]
              exact ⟨rfl, by simp only [twR, upd_uu]; try rfl⟩
        · skip
          refine x_aload_n dX5_lay_26 rfl rfl ?_
          refine x_iload_n dX5_lay_27 rfl rfl ?_
          refine x_cVI (t_isJar T) okX5_isJar clX5 q2247 q2249 qs34 dX5_lay_28 (Or.inl T.1) rfl rfl (by decide) (Nat.zero_le _) (Nat.zero_le _) (Nat.le_of_ble_eq_true rfl) (fun _ => ?_)
          refine x_if_eqB 38 dX5_lay_31 (by decide) (fun e19 => ?_) (fun e19 => ?_)
          · skip
            refine x_iconst (nI 0) dX5_lay_38 (by decide) ?_
            refine x_istore [(4, .int (nI 0)), (0, .ref a), (1, .int (nI k)), (2, .int y), (3, .int z)] dX5_lay_39 (by decide) rfl ?_
            refine x_aload_n dX5_lay_41 rfl rfl ?_
            refine x_iload dX5_lay_42 rfl ?_
            refine x_if_ne 51 dX5_lay_44 (by decide) (fun z => False.elim (by revert z; decide)) (fun _ => ?_)
            refine x_iconst (nI 1) dX5_lay_47 (by decide) ?_
            refine x_goto 65 dX5_lay_48 (by decide) ?_
            refine x_cVI (t_fails1 T) okX5_fails clX5 q2159 q2161 qs23 dX5_lay_65 (Or.inl T.1) rfl rfl (by decide) (Nat.zero_le _) (Nat.zero_le _) (Nat.le_of_ble_eq_true rfl) (fun _ => ?_)
            refine x_if_eq 73 dX5_lay_68 (by decide) (fun z => False.elim (by revert z; decide)) (fun _ => ?_)
            refine x_iconst (nI 0) dX5_lay_71 (by decide) ?_
            refine x_iret rfl dX5_lay_72 ?_
            rw [show sp_lay g (nI k) y z = iobR g from by simp_all [sp_lay, isThere, nIl, nle_i, nlt_i]]
            exact ⟨rfl, by simp only [twR, upd_uu]; try rfl⟩
          · skip
            refine x_iconst (nI 1) dX5_lay_34 (by decide) ?_
            refine x_goto 39 dX5_lay_35 (by decide) ?_
            refine x_istore [(4, .int (nI 1)), (0, .ref a), (1, .int (nI k)), (2, .int y), (3, .int z)] dX5_lay_39 (by decide) rfl ?_
            refine x_aload_n dX5_lay_41 rfl rfl ?_
            refine x_iload dX5_lay_42 rfl ?_
            refine x_if_ne 51 dX5_lay_44 (by decide) (fun _ => ?_) (fun z => False.elim (by revert z; decide))
            refine x_iload_n dX5_lay_51 rfl rfl ?_
            refine x_iconst (nI 0) dX5_lay_52 (by decide) ?_
            refine x_iconst (nI 1) dX5_lay_53 (by decide) ?_
            refine x_cSI t_in okX5_in q2156 q2157 dX5_lay_54 rfl rfl (by decide) (Nat.zero_le _) (Nat.zero_le _) (Nat.le_of_ble_eq_true rfl) (fun _ => ?_)
            refine x_if_eqB 64 dX5_lay_57 (by decide) (fun e20 => ?_) (fun e20 => ?_)
            · skip
              refine x_iconst (nI 2) dX5_lay_64 (by decide) ?_
              refine x_cVI (t_fails2 T) okX5_fails clX5 q2159 q2161 qs23 dX5_lay_65 (Or.inl T.1) rfl rfl (by decide) (Nat.zero_le _) (Nat.zero_le _) (Nat.le_of_ble_eq_true rfl) (fun _ => ?_)
              refine x_if_eq 73 dX5_lay_68 (by decide) (fun z => False.elim (by revert z; decide)) (fun _ => ?_)
              refine x_iconst (nI 0) dX5_lay_71 (by decide) ?_
              refine x_iret rfl dX5_lay_72 ?_
              rw [show sp_lay g (nI k) y z = iaeR g from by simp_all [sp_lay, isThere, nIl, nle_i, nlt_i]]
              exact ⟨rfl, by simp only [twR, upd_uu]; try rfl⟩
            · skip
              refine x_iconst (nI 0) dX5_lay_60 (by decide) ?_
              refine x_goto 65 dX5_lay_61 (by decide) ?_
              refine x_cVI (t_fails0 T) okX5_fails clX5 q2159 q2161 qs23 dX5_lay_65 (Or.inl T.1) rfl rfl (by decide) (Nat.zero_le _) (Nat.zero_le _) (Nat.le_of_ble_eq_true rfl) (fun _ => ?_)
              refine x_if_eq 73 dX5_lay_68 (by decide) (fun _ => ?_) (fun z => False.elim (by revert z; decide))
              refine x_aload_n dX5_lay_73 rfl rfl ?_
              refine tg_g T (.inl q2082) dX5_lay_74 ?_
              refine x_bipush (nI 11) dX5_lay_77 (by decide) ?_
              refine tld1 T rfl (by omega) dX5_lay_79 ?_
              refine x_iload_n dX5_lay_80 rfl rfl ?_
              refine x_icmp_eq 99 dX5_lay_81 (by decide) (fun e21 => ?_) (fun e21 => ?_)
              · skip
                refine x_iconst (nI 0) dX5_lay_99 (by decide) ?_
                refine x_istore [(5, .int (nI 0)), (4, .int (nI 1)), (0, .ref a), (1, .int (nI k)), (2, .int y), (3, .int z)] dX5_lay_100 (by decide) rfl ?_
                refine x_sub [2, 3, 4, 5, 0] (lv' := [(0, .ref a), (1, .int (nI k)), (2, .int y), (3, .int z), (5, .int (nI 0))]) rfl ?_
                refine x_bud (bc' := 0) (bs' := 0) (by first | exact Nat.zero_le _ | omega) (by first | exact Nat.zero_le _ | omega) ?_
                refine lpN (P := fun i => lf (trP g z) i = none → X G c kX5_lay 2 _ _ _ 0 0 (twh h a g S (upd V 34 (nI 0))) 102 [(0, .ref a), (1, .int (nI k)), (2, .int y), (3, .int z), (5, .int (nI i))] []) 4 (fun i hi ih hl => ?_) 0 (Nat.zero_le _) rfl
                refine x_iload dX5_lay_102 rfl ?_
                refine x_iconst (nI 4) dX5_lay_104 (by decide) ?_
                refine x_icmp_ge 138 dX5_lay_105 (by decide) (fun e22 => ?_) (fun e22 => ?_)
                · skip
                  have ne22 := e22
                  rw [nI_leI (by omega) (by omega)] at ne22
                  refine x_aload_n dX5_lay_138 rfl rfl ?_
                  refine x_aload_n dX5_lay_139 rfl rfl ?_
                  refine tg_g T (.inl q2082) dX5_lay_140 ?_
                  refine x_cVV (t_keepsF T VO) okX5_keeps clX5 q2167 q2169 qs25 dX5_lay_143 (Or.inl T.1) rfl rfl (by decide) (Nat.zero_le _) (Nat.zero_le _) (Nat.le_of_ble_eq_true rfl) (fun _ => ?_)
                  refine x_aload_n dX5_lay_146 rfl rfl ?_
                  refine tg_g T (.inl q2082) dX5_lay_147 ?_
                  refine x_bipush (nI 12) dX5_lay_150 (by decide) ?_
                  refine x_iload_n dX5_lay_152 rfl rfl ?_
                  refine x_iadd dX5_lay_153 ?_
                  refine x_val (nI_add _ _) ?_
                  refine x_iload_n dX5_lay_154 rfl rfl ?_
                  refine tst1 T rfl (by omega) dX5_lay_155 ?_
                  refine x_aload_n dX5_lay_156 rfl rfl ?_
                  refine x_cVI (t_laid T) okX5_laid clX5 q2350 q2352 qs49 dX5_lay_157 (Or.inl T.1) rfl rfl (by decide) (Nat.zero_le _) (Nat.zero_le _) (Nat.le_of_ble_eq_true rfl) (fun _ => ?_)
                  refine x_iret rfl dX5_lay_160 ?_
                  obtain rfl : i = 4 := by omega
                  rw [show sp_lay g (nI k) y z = okR (nI (laidN (layG g k z))) (layG g k z) from by simp_all [sp_lay, isThere, nIl, nle_i, nlt_i]]
                  exact ⟨rfl, rfl⟩
                · skip
                  have ne22 := e22
                  rw [nI_leI (by omega) (by omega)] at ne22
                  refine x_aload_n dX5_lay_108 rfl rfl ?_
                  refine tg_g T (.inl q2082) dX5_lay_109 ?_
                  refine x_bipush (nI 12) dX5_lay_112 (by decide) ?_
                  refine x_iload dX5_lay_114 rfl ?_
                  refine x_iadd dX5_lay_116 ?_
                  refine x_val (nI_add _ _) ?_
                  refine tld1 T rfl (by omega) dX5_lay_117 ?_
                  refine x_iload_n dX5_lay_118 rfl rfl ?_
                  refine x_icmp_ne 132 dX5_lay_119 (by decide) (fun e23 => ?_) (fun e23 => ?_)
                  · skip
                    refine x_iinc (j := 4) (nI (i + 1)) [(5, .int (nI (i + 1))), (0, .ref a), (1, .int (nI k)), (2, .int y), (3, .int z)] dX5_lay_132 rfl (by first | exact nI_add _ _ | decide) (by decide) rfl ?_
                    refine x_goto 102 dX5_lay_135 (by decide) ?_
                    refine x_sub [1, 2, 3, 4, 0] (lv' := [(0, .ref a), (1, .int (nI k)), (2, .int y), (3, .int z), (5, .int (nI (i + 1)))]) rfl ?_
                    have hp : trP g z i = false := by simp_all [trP]
                    exact ih (by omega) (lf_step hl hp)
                  · skip
                    refine x_aload_n dX5_lay_122 rfl rfl ?_
                    refine x_iconst (nI 3) dX5_lay_123 (by decide) ?_
                    refine x_bipush (nI 13) dX5_lay_124 (by decide) ?_
                    refine x_iload dX5_lay_126 rfl ?_
                    refine x_cVI (t_refuses T) okX5_refuses clX5 q2163 q2165 qs24 dX5_lay_128 (Or.inl T.1) rfl rfl (by decide) (Nat.zero_le _) (Nat.zero_le _) (Nat.le_of_ble_eq_true rfl) (fun _ => ?_)
                    refine x_iret rfl dX5_lay_131 ?_
                    have hp : trP g z i = true := by simp_all [trP]
                    have hf : lf (trP g z) 4 = some i := lf_found hl hp (by omega)
                    rw [show sp_lay g (nI k) y z = refR 13 (nI i) g from by simp_all [sp_lay, isThere, nIl, nle_i, nlt_i]]
                    exact ⟨rfl, by simp only [twR, upd_uu]; try rfl⟩
              · skip
                refine x_aload_n dX5_lay_84 rfl rfl ?_
                refine x_iconst (nI 3) dX5_lay_85 (by decide) ?_
                refine x_bipush (nI 12) dX5_lay_86 (by decide) ?_
                refine x_aload_n dX5_lay_88 rfl rfl ?_
                refine tg_g T (.inl q2082) dX5_lay_89 ?_
                refine x_bipush (nI 11) dX5_lay_92 (by decide) ?_
                refine tld1 T rfl (by omega) dX5_lay_94 ?_
                refine x_cVI (t_refuses T) okX5_refuses clX5 q2163 q2165 qs24 dX5_lay_95 (Or.inl T.1) rfl rfl (by decide) (Nat.zero_le _) (Nat.zero_le _) (Nat.le_of_ble_eq_true rfl) (fun _ => ?_)
                refine x_iret rfl dX5_lay_98 ?_
                rw [show sp_lay g (nI k) y z = refR 12 (g 11) g from by simp_all [sp_lay, isThere, nIl, nle_i, nlt_i]]
                exact ⟨rfl, by simp only [twR, upd_uu]; try rfl⟩
theorem t_onTray {G : GG} {h : AH} {a : Nat} {g : Nat → Int32} {S : Nat → Nat → Int32} {V : Nat → Int32} (T : Tw h a) (O : GOk g) {x : Int32} : Cal G kX5_onTray 2 0 0 [.ref a, .int x] (twh h a g S V) (rI (sp_onTray g x).2 (twQ h a g S V (sp_onTray g x))) := by
  refine Cal.of (by decide +kernel) (Nat.le_of_ble_eq_true rfl) (fun c => ?_)
  have hb0 := O.b
  have hj0 := O.j
  have ho0 := O.o
  refine x_aload_n dX5_onTray_0 rfl rfl ?_
  refine x_iload_n dX5_onTray_1 rfl rfl ?_
  refine x_iconst (nI 0) dX5_onTray_2 (by decide) ?_
  refine x_iconst (nI 3) dX5_onTray_3 (by decide) ?_
  refine x_cSI t_in okX5_in q2156 q2157 dX5_onTray_4 rfl rfl (by decide) (Nat.zero_le _) (Nat.zero_le _) (Nat.le_of_ble_eq_true rfl) (fun _ => ?_)
  refine x_if_neB 14 dX5_onTray_7 (by decide) (fun e1 => ?_) (fun e1 => ?_)
  · skip
    obtain ⟨k, hk, rfl⟩ := inB_n (n := 3) (by decide) e1
    have xk : (nI k).toNatClampNeg = k := ix_nI (by omega)
    refine x_aload_n dX5_onTray_14 rfl rfl ?_
    refine tg_g T (.inl q2082) dX5_onTray_15 ?_
    refine x_bipush (nI 12) dX5_onTray_18 (by decide) ?_
    refine x_iload_n dX5_onTray_20 rfl rfl ?_
    refine x_iadd dX5_onTray_21 ?_
    refine x_val (nI_add _ _) ?_
    refine tld1 T rfl (by omega) dX5_onTray_22 ?_
    refine x_if_ge 30 dX5_onTray_23 (by decide) (fun e2 => ?_) (fun e2 => ?_)
    · skip
      refine x_iconst (nI 0) dX5_onTray_30 (by decide) ?_
      refine x_cVI (t_fails0 T) okX5_fails clX5 q2159 q2161 qs23 dX5_onTray_31 (Or.inl T.1) rfl rfl (by decide) (Nat.zero_le _) (Nat.zero_le _) (Nat.le_of_ble_eq_true rfl) (fun _ => ?_)
      refine x_if_eq 41 dX5_onTray_34 (by decide) (fun _ => ?_) (fun z => False.elim (by revert z; decide))
      refine x_aload_n dX5_onTray_41 rfl rfl ?_
      refine tg_g T (.inl q2082) dX5_onTray_42 ?_
      refine x_bipush (nI 12) dX5_onTray_45 (by decide) ?_
      refine x_iload_n dX5_onTray_47 rfl rfl ?_
      refine x_iadd dX5_onTray_48 ?_
      refine x_val (nI_add _ _) ?_
      refine tld1 T rfl (by omega) dX5_onTray_49 ?_
      refine x_iret rfl dX5_onTray_50 ?_
      rw [show sp_onTray g (nI k) = (0, g (12 + k)) from by simp_all [sp_onTray, ← pk_mul, ← nI_add, nIl, ixl, nle_i, nlt_i]]
      exact ⟨rfl, by simp only [twQ, upd_uu]⟩
    · skip
      refine x_iconst (nI 2) dX5_onTray_26 (by decide) ?_
      refine x_goto 31 dX5_onTray_27 (by decide) ?_
      refine x_cVI (t_fails2 T) okX5_fails clX5 q2159 q2161 qs23 dX5_onTray_31 (Or.inl T.1) rfl rfl (by decide) (Nat.zero_le _) (Nat.zero_le _) (Nat.le_of_ble_eq_true rfl) (fun _ => ?_)
      refine x_if_eq 41 dX5_onTray_34 (by decide) (fun z => False.elim (by revert z; decide)) (fun _ => ?_)
      refine x_iconst (nI 0) dX5_onTray_37 (by decide) ?_
      refine x_goto 50 dX5_onTray_38 (by decide) ?_
      refine x_iret rfl dX5_onTray_50 ?_
      rw [show sp_onTray g (nI k) = (2, nI 0) from by simp_all [sp_onTray, ← pk_mul, ← nI_add, nIl, ixl, nle_i, nlt_i]]
      exact ⟨rfl, by simp only [twQ, upd_uu]⟩
  · skip
    refine x_iconst (nI 1) dX5_onTray_10 (by decide) ?_
    refine x_goto 31 dX5_onTray_11 (by decide) ?_
    refine x_cVI (t_fails1 T) okX5_fails clX5 q2159 q2161 qs23 dX5_onTray_31 (Or.inl T.1) rfl rfl (by decide) (Nat.zero_le _) (Nat.zero_le _) (Nat.le_of_ble_eq_true rfl) (fun _ => ?_)
    refine x_if_eq 41 dX5_onTray_34 (by decide) (fun z => False.elim (by revert z; decide)) (fun _ => ?_)
    refine x_iconst (nI 0) dX5_onTray_37 (by decide) ?_
    refine x_goto 50 dX5_onTray_38 (by decide) ?_
    refine x_iret rfl dX5_onTray_50 ?_
    rw [show sp_onTray g x = (1, nI 0) from by simp_all [sp_onTray, ← pk_mul, ← nI_add, nIl, ixl, nle_i, nlt_i]]
    exact ⟨rfl, by simp only [twQ, upd_uu]⟩
def b1G (g : Nat → Int32) : Nat → Nat → Int32
  | 0 => g
  | i + 1 => upd (b1G g i) i 0
def b2G (g : Nat → Int32) : Nat → Nat → Int32
  | 0 => b1G g 221
  | i + 1 => upd (b2G g i) (1 + i) 60
def b3G (g : Nat → Int32) : Nat → Nat → Int32
  | 0 => upd (upd (upd (b2G g 3) 4 20) 5 12) 6 40
  | i + 1 => upd (b3G g i) (11 + i) (-1)
def b4G (g : Nat → Int32) : Nat → Nat → Int32
  | 0 => b3G g 5
  | i + 1 => upd (b4G g i) (16 + 3 * i) 9
theorem b1G_at {g : Nat → Int32} {k : Nat} : ∀ i, b1G g i k = if k < i then 0 else g k := by
  intro i
  induction i with
  | zero => simp [b1G]
  | succ i ih =>
    show upd (b1G g i) i 0 k = _
    unfold upd
    by_cases e : k = i
    · subst e; simp
    · rw [if_neg e, ih]
      by_cases l : k < i
      · rw [if_pos l, if_pos (by omega)]
      · rw [if_neg l, if_neg (by omega)]
theorem b4G_bg {g : Nat → Int32} : b4G g 3 = bgG g := by
  funext k
  show upd (upd (upd (upd (upd (upd (upd (upd (upd (upd (upd (upd (upd (upd (b1G g 221) (1 + 0) 60) (1 + 1) 60) (1 + 2) 60) 4 20) 5 12) 6 40) (11 + 0) (-1)) (11 + 1) (-1)) (11 + 2) (-1)) (11 + 3) (-1)) (11 + 4) (-1)) (16 + 3 * 0) 9) (16 + 3 * 1) 9) (16 + 3 * 2) 9 k = _
  unfold bgG beginG
  simp only [upd, b1G_at]
  by_cases h : k < 221
  · rw [if_pos h]
    by_cases c1 : k = 22
    · subst c1; rfl
    by_cases c2 : k = 19
    · subst c2; rfl
    by_cases c3 : k = 16
    · subst c3; rfl
    by_cases c4 : 11 ≤ k ∧ k < 16
    · rcases (show k = 11 ∨ k = 12 ∨ k = 13 ∨ k = 14 ∨ k = 15 by omega) with r | r | r | r | r <;> subst r <;> rfl
    by_cases c5 : k < 7
    · rcases (show k = 0 ∨ k = 1 ∨ k = 2 ∨ k = 3 ∨ k = 4 ∨ k = 5 ∨ k = 6 by omega) with r | r | r | r | r | r | r <;> subst r <;> rfl
    · repeat rw [if_neg (by omega)]
      rw [if_pos h]
      repeat rw [if_neg (by omega)]
  · rw [if_neg h]
    repeat rw [if_neg (by omega)]

theorem t_begins {G : GG} {h : AH} {a : Nat} {g : Nat → Int32} {S : Nat → Nat → Int32} {V : Nat → Int32} (T : Tw h a)  : Cal G kX5_begins 0 0 0 [.ref a] (twh h a g S V) (rV (twh h a (bgG g) S V)) := by
  refine Cal.of (by decide +kernel) (Nat.le_of_ble_eq_true rfl) (fun c => ?_)
  refine x_iconst (nI 0) dX5_begins_0 (by decide) ?_
  refine x_istore_n [(1, .int (nI 0)), (0, .ref a)] dX5_begins_1 rfl (by decide) rfl ?_
  refine x_eq (h' := twh h a (b1G g 0) S V) rfl rfl rfl ?_
  refine x_sub [1, 0] (lv' := [(0, .ref a), (1, .int (nI 0))]) rfl ?_
  refine x_bud (bc' := 0) (bs' := 0) (by first | exact Nat.zero_le _ | omega) (by first | exact Nat.zero_le _ | omega) ?_
  refine lpN (P := fun i => X G c kX5_begins 0 _ _ _ 0 0 (twh h a (b1G g i) S V) 2 [(0, .ref a), (1, .int (nI i))] []) 221 (fun i hi ih => ?_) 0 (Nat.zero_le _)
  refine x_iload_n dX5_begins_2 rfl rfl ?_
  refine x_sipush (nI 221) dX5_begins_3 (by decide) ?_
  refine x_icmp_ge 22 dX5_begins_6 (by decide) (fun e1 => ?_) (fun e1 => ?_)
  · skip
    have ne1 := e1
    rw [nI_leI (by omega) (by omega)] at ne1
    obtain rfl : i = 221 := by omega
    refine x_lv [(0, .ref a)] (fun q hq => by rw [List.mem_singleton.mp hq]; exact List.mem_cons_self) ?_
    refine x_iconst (nI 0) dX5_begins_22 (by decide) ?_
    refine x_istore_n [(1, .int (nI 0)), (0, .ref a)] dX5_begins_23 rfl (by decide) rfl ?_
    refine x_eq (h' := twh h a (b2G g 0) S V) rfl rfl rfl ?_
    refine x_sub [1, 0] (lv' := [(0, .ref a), (1, .int (nI 0))]) rfl ?_
    refine x_bud (bc' := 0) (bs' := 0) (by first | exact Nat.zero_le _ | omega) (by first | exact Nat.zero_le _ | omega) ?_
    refine lpN (P := fun i => X G c kX5_begins 0 _ _ _ 0 0 (twh h a (b2G g i) S V) 24 [(0, .ref a), (1, .int (nI i))] []) 3 (fun i hi ih => ?_) 0 (Nat.zero_le _)
    refine x_iload_n dX5_begins_24 rfl rfl ?_
    refine x_iconst (nI 3) dX5_begins_25 (by decide) ?_
    refine x_icmp_ge 45 dX5_begins_26 (by decide) (fun e2 => ?_) (fun e2 => ?_)
    · skip
      have ne2 := e2
      rw [nI_leI (by omega) (by omega)] at ne2
      obtain rfl : i = 3 := by omega
      refine x_lv [(0, .ref a)] (fun q hq => by rw [List.mem_singleton.mp hq]; exact List.mem_cons_self) ?_
      refine x_aload_n dX5_begins_45 rfl rfl ?_
      refine tg_g T (.inl q2082) dX5_begins_46 ?_
      refine x_iconst (nI 4) dX5_begins_49 (by decide) ?_
      refine x_bipush (nI 20) dX5_begins_50 (by decide) ?_
      refine tst1 T rfl (by omega) dX5_begins_52 ?_
      refine x_aload_n dX5_begins_53 rfl rfl ?_
      refine tg_g T (.inl q2082) dX5_begins_54 ?_
      refine x_iconst (nI 5) dX5_begins_57 (by decide) ?_
      refine x_bipush (nI 12) dX5_begins_58 (by decide) ?_
      refine tst1 T rfl (by omega) dX5_begins_60 ?_
      refine x_aload_n dX5_begins_61 rfl rfl ?_
      refine tg_g T (.inl q2082) dX5_begins_62 ?_
      refine x_bipush (nI 6) dX5_begins_65 (by decide) ?_
      refine x_bipush (nI 40) dX5_begins_67 (by decide) ?_
      refine tst1 T rfl (by omega) dX5_begins_69 ?_
      refine x_bipush (nI 11) dX5_begins_70 (by decide) ?_
      refine x_istore_n [(1, .int (nI 11)), (0, .ref a)] dX5_begins_72 rfl (by decide) rfl ?_
      refine x_eq (h' := twh h a (b3G g 0) S V) rfl rfl rfl ?_
      refine x_sub [1, 0] (lv' := [(0, .ref a), (1, .int (nI (11 + 0)))]) rfl ?_
      refine x_bud (bc' := 0) (bs' := 0) (by first | exact Nat.zero_le _ | omega) (by first | exact Nat.zero_le _ | omega) ?_
      refine lpN (P := fun i => X G c kX5_begins 0 _ _ _ 0 0 (twh h a (b3G g i) S V) 73 [(0, .ref a), (1, .int (nI (11 + i)))] []) 5 (fun i hi ih => ?_) 0 (Nat.zero_le _)
      refine x_iload_n dX5_begins_73 rfl rfl ?_
      refine x_bipush (nI 16) dX5_begins_74 (by decide) ?_
      refine x_icmp_ge 92 dX5_begins_76 (by decide) (fun e3 => ?_) (fun e3 => ?_)
      · skip
        have ne3 := e3
        rw [nI_leI (by omega) (by omega)] at ne3
        obtain rfl : i = 5 := by omega
        refine x_lv [(0, .ref a)] (fun q hq => by rw [List.mem_singleton.mp hq]; exact List.mem_cons_self) ?_
        refine x_iconst (nI 0) dX5_begins_92 (by decide) ?_
        refine x_istore_n [(1, .int (nI 0)), (0, .ref a)] dX5_begins_93 rfl (by decide) rfl ?_
        refine x_eq (h' := twh h a (b4G g 0) S V) rfl rfl rfl ?_
        refine x_sub [1, 0] (lv' := [(0, .ref a), (1, .int (nI 0))]) rfl ?_
        refine x_bud (bc' := 0) (bs' := 0) (by first | exact Nat.zero_le _ | omega) (by first | exact Nat.zero_le _ | omega) ?_
        refine lpN (P := fun i => X G c kX5_begins 0 _ _ _ 0 0 (twh h a (b4G g i) S V) 94 [(0, .ref a), (1, .int (nI i))] []) 3 (fun i hi ih => ?_) 0 (Nat.zero_le _)
        refine x_iload_n dX5_begins_94 rfl rfl ?_
        refine x_iconst (nI 3) dX5_begins_95 (by decide) ?_
        refine x_icmp_ge 118 dX5_begins_96 (by decide) (fun e4 => ?_) (fun e4 => ?_)
        · skip
          have ne4 := e4
          rw [nI_leI (by omega) (by omega)] at ne4
          obtain rfl : i = 3 := by omega
          refine x_lv [(0, .ref a)] (fun q hq => by rw [List.mem_singleton.mp hq]; exact List.mem_cons_self) ?_
          refine x_vret rfl dX5_begins_118 ?_
          exact rV_of2 (by rw [b4G_bg])
        · skip
          have ne4 := e4
          rw [nI_leI (by omega) (by omega)] at ne4
          refine x_aload_n dX5_begins_99 rfl rfl ?_
          refine tg_g T (.inl q2082) dX5_begins_100 ?_
          refine x_bipush (nI 16) dX5_begins_103 (by decide) ?_
          refine x_iconst (nI 3) dX5_begins_105 (by decide) ?_
          refine x_iload_n dX5_begins_106 rfl rfl ?_
          refine x_imul dX5_begins_107 ?_
          refine x_val (pk_mul _ _) ?_
          refine x_iadd dX5_begins_108 ?_
          refine x_val (nI_add _ _) ?_
          refine x_bipush (nI 9) dX5_begins_109 (by decide) ?_
          refine tst1 T rfl (by omega) dX5_begins_111 ?_
          refine x_iinc (j := 1) (nI (i + 1)) [(1, .int (nI (i + 1))), (0, .ref a)] dX5_begins_112 rfl (by first | exact nI_add _ _ | decide) (by decide) rfl ?_
          refine x_goto 94 dX5_begins_115 (by decide) ?_
          refine x_sub [1, 0] (lv' := [(0, .ref a), (1, .int (nI (i + 1)))]) rfl ?_
          refine x_eq (h' := twh h a (b4G g (i + 1)) S V) rfl rfl rfl ?_
          exact ih (by omega)
      · skip
        have ne3 := e3
        rw [nI_leI (by omega) (by omega)] at ne3
        refine x_aload_n dX5_begins_79 rfl rfl ?_
        refine tg_g T (.inl q2082) dX5_begins_80 ?_
        refine x_iload_n dX5_begins_83 rfl rfl ?_
        refine x_iconst (-1) dX5_begins_84 (by decide) ?_
        refine tst1 T rfl (by omega) dX5_begins_85 ?_
        refine x_iinc (j := 1) (nI (11 + i + 1)) [(1, .int (nI (11 + i + 1))), (0, .ref a)] dX5_begins_86 rfl (by first | exact nI_add _ _ | decide) (by decide) rfl ?_
        refine x_goto 73 dX5_begins_89 (by decide) ?_
        refine x_sub [1, 0] (lv' := [(0, .ref a), (1, .int (nI (11 + i + 1)))]) rfl ?_
        refine x_eq (h' := twh h a (b3G g (i + 1)) S V) rfl rfl rfl ?_
        exact ih (by omega)
    · skip
      have ne2 := e2
      rw [nI_leI (by omega) (by omega)] at ne2
      refine x_aload_n dX5_begins_29 rfl rfl ?_
      refine tg_g T (.inl q2082) dX5_begins_30 ?_
      refine x_iconst (nI 1) dX5_begins_33 (by decide) ?_
      refine x_iload_n dX5_begins_34 rfl rfl ?_
      refine x_iadd dX5_begins_35 ?_
      refine x_val (nI_add _ _) ?_
      refine x_bipush (nI 60) dX5_begins_36 (by decide) ?_
      refine tst1 T rfl (by omega) dX5_begins_38 ?_
      refine x_iinc (j := 1) (nI (i + 1)) [(1, .int (nI (i + 1))), (0, .ref a)] dX5_begins_39 rfl (by first | exact nI_add _ _ | decide) (by decide) rfl ?_
      refine x_goto 24 dX5_begins_42 (by decide) ?_
      refine x_sub [1, 0] (lv' := [(0, .ref a), (1, .int (nI (i + 1)))]) rfl ?_
      refine x_eq (h' := twh h a (b2G g (i + 1)) S V) rfl rfl rfl ?_
      exact ih (by omega)
  · skip
    have ne1 := e1
    rw [nI_leI (by omega) (by omega)] at ne1
    refine x_aload_n dX5_begins_9 rfl rfl ?_
    refine tg_g T (.inl q2082) dX5_begins_10 ?_
    refine x_iload_n dX5_begins_13 rfl rfl ?_
    refine x_iconst (nI 0) dX5_begins_14 (by decide) ?_
    refine tst1 T rfl (by omega) dX5_begins_15 ?_
    refine x_iinc (j := 1) (nI (i + 1)) [(1, .int (nI (i + 1))), (0, .ref a)] dX5_begins_16 rfl (by first | exact nI_add _ _ | decide) (by decide) rfl ?_
    refine x_goto 2 dX5_begins_19 (by decide) ?_
    refine x_sub [1, 0] (lv' := [(0, .ref a), (1, .int (nI (i + 1)))]) rfl ?_
    refine x_eq (h' := twh h a (b1G g (i + 1)) S V) rfl rfl rfl ?_
    exact ih (by omega)
