/-! THE REFERENCE, fifth part: jars, orders, days, trays, what is told; printed by tools/tw5.py -/
set_option maxRecDepth 100000
theorem zr_eq {g : Nat → Int32} {b k i : Nat} (h : k < b ∨ b + i ≤ k) : zr g b i k = g k := zr_ne h
theorem GOk.jst {g : Nat → Int32} (O : GOk g) {b : Nat} (hb : b < nBt g) (hj : nJr g < 20) : GOk (jarStep g (nI b)) ∧ nJr (jarStep g (nI b)) = nJr g + 1 ∧ nBt (jarStep g (nI b)) = nBt g := by
  have hn := O.b
  have e8 : jarStep g (nI b) 8 = nI (nJr g + 1) := pk_us
  have eJ : nJr (jarStep g (nI b)) = nJr g + 1 := nJr_eq e8 (by omega)
  have ot : ∀ k, k ≠ 8 → (k < 109 + 4 * nJr g ∨ 109 + 4 * nJr g + 4 ≤ k) → jarStep g (nI b) k = g k := by
    intro k h1 h2
    unfold jarStep
    rw [pk_un h1, pk_un (by omega), zr_ne h2]
  have e7 : jarStep g (nI b) 7 = g 7 := ot 7 (by decide) (by omega)
  have eB : nBt (jarStep g (nI b)) = nBt g := by unfold nBt; rw [e7]
  refine ⟨⟨by rw [e7]; exact O.1, ⟨nJr g + 1, e8, by omega⟩, by rw [ot 9 (by decide) (by omega)]; exact O.2.2.1, fun j hjj => ?_, fun q hq => ?_, fun q hq => ?_⟩, eJ, eB⟩
  · rw [eJ] at hjj
    rcases Nat.lt_or_ge j (nJr g) with l | l
    · obtain ⟨x, h1, h2⟩ := O.2.2.2.1 j l
      exact ⟨x, by rw [show gj (jarStep g (nI b)) j 1 = gj g j 1 from ot _ (by omega) (by omega)]; exact h1, by rw [eB]; exact h2⟩
    · obtain rfl : j = nJr g := by omega
      refine ⟨b, ?_, by rw [eB]; exact hb⟩
      show jarStep g (nI b) (109 + 4 * nJr g + 1) = nI b
      unfold jarStep
      rw [pk_un (by omega), pk_us]
  · rw [show gb (jarStep g (nI b)) q 2 = gb g q 2 from ot _ (by omega) (by omega)]; exact O.2.2.2.2.1 q hq
  · rw [show gb (jarStep g (nI b)) q 4 = gb g q 4 from ot _ (by omega) (by omega)]; exact O.2.2.2.2.2 q hq
theorem GOk.jss {g : Nat → Int32} (O : GOk g) {b : Nat} (hb : b < nBt g) : ∀ i, nJr g + i ≤ 20 → GOk (jarsG g (nI b) i) ∧ nJr (jarsG g (nI b) i) = nJr g + i ∧ nBt (jarsG g (nI b) i) = nBt g := by
  intro i
  induction i with
  | zero => intro _; exact ⟨O, rfl, rfl⟩
  | succ i ih =>
    intro hi
    obtain ⟨a, c, d⟩ := ih (by omega)
    obtain ⟨a2, c2, d2⟩ := a.jst (b := b) (by rw [d]; exact hb) (by omega)
    exact ⟨a2, by rw [show jarsG g (nI b) (i + 1) = jarStep (jarsG g (nI b) i) (nI b) from rfl, c2, c]; omega, d2.trans d⟩
theorem t_jar {G : GG} {h : AH} {a : Nat} {g : Nat → Int32} {S : Nat → Nat → Int32} {V : Nat → Int32} (T : Tw h a) (O : GOk g) (VO : VOk V) {x : Int32} {y : Int32} : Cal G kX5_jar 2 0 0 [.ref a, .int x, .int y] (twh h a g S V) (rI (sp_jar g x y).2.1 (twR h a g S V (nI 1) (nI 2) (nI 3) (sp_jar g x y))) := by
  refine Cal.of (by decide +kernel) (Nat.le_of_ble_eq_true rfl) (fun c => ?_)
  have hb0 := O.b
  have hj0 := O.j
  have ho0 := O.o
  refine x_aload_n dX5_jar_0 rfl rfl ?_
  refine x_aload_n dX5_jar_1 rfl rfl ?_
  refine x_iload_n dX5_jar_2 rfl rfl ?_
  refine x_cVI (t_isBatch T) okX5_isBatch clX5 q2219 q2221 qs30 dX5_jar_3 (Or.inl T.1) rfl rfl (by decide) (Nat.zero_le _) (Nat.zero_le _) (Nat.le_of_ble_eq_true rfl) (fun _ => ?_)
  refine x_if_neB 13 dX5_jar_6 (by decide) (fun e1 => ?_) (fun e1 => ?_)
  · skip
    obtain ⟨k, hk, rfl⟩ := inB_m O.b.1 (by omega) e1
    have xk : (nI k).toNatClampNeg = k := ix_nI (by omega)
    refine x_iload_n dX5_jar_13 rfl rfl ?_
    refine x_iconst (nI 1) dX5_jar_14 (by decide) ?_
    refine x_bipush (nI 6) dX5_jar_15 (by decide) ?_
    refine x_cSI t_in okX5_in q2156 q2157 dX5_jar_17 rfl rfl (by decide) (Nat.zero_le _) (Nat.zero_le _) (Nat.le_of_ble_eq_true rfl) (fun _ => ?_)
    refine x_if_eqB 27 dX5_jar_20 (by decide) (fun e2 => ?_) (fun e2 => ?_)
    · skip
      refine x_iconst (nI 2) dX5_jar_27 (by decide) ?_
      refine x_cVI (t_fails2 T) okX5_fails clX5 q2159 q2161 qs23 dX5_jar_28 (Or.inl T.1) rfl rfl (by decide) (Nat.zero_le _) (Nat.zero_le _) (Nat.le_of_ble_eq_true rfl) (fun _ => ?_)
      refine x_if_eq 36 dX5_jar_31 (by decide) (fun z => False.elim (by revert z; decide)) (fun _ => ?_)
      refine x_iconst (nI 0) dX5_jar_34 (by decide) ?_
      refine x_iret rfl dX5_jar_35 ?_
      rw [show sp_jar g (nI k) y = iaeR g from by simp_all [sp_jar, ← pk_mul, ← nI_add, nIl, ixl, nle_i, nlt_i]]
      exact ⟨rfl, by simp only [twR, upd_uu]; try rfl⟩
    · skip
      obtain ⟨m, lm, hm, rfl⟩ := inB_1 (n := 6) (by decide) e2
      have xm : (nI m).toNatClampNeg = m := ix_nI (by omega)
      refine x_iconst (nI 0) dX5_jar_23 (by decide) ?_
      refine x_goto 28 dX5_jar_24 (by decide) ?_
      refine x_cVI (t_fails0 T) okX5_fails clX5 q2159 q2161 qs23 dX5_jar_28 (Or.inl T.1) rfl rfl (by decide) (Nat.zero_le _) (Nat.zero_le _) (Nat.le_of_ble_eq_true rfl) (fun _ => ?_)
      refine x_if_eq 36 dX5_jar_31 (by decide) (fun _ => ?_) (fun z => False.elim (by revert z; decide))
      refine x_aload_n dX5_jar_36 rfl rfl ?_
      refine x_iload_n dX5_jar_37 rfl rfl ?_
      refine x_iconst (nI 0) dX5_jar_38 (by decide) ?_
      refine x_cVI (t_ofBatch T (by omega)) okX5_ofBatch clX5 q2223 q2225 qs31 dX5_jar_39 (Or.inl T.1) rfl rfl (by decide) (Nat.zero_le _) (Nat.zero_le _) (Nat.le_of_ble_eq_true rfl) (fun _ => ?_)
      refine x_iconst (nI 1) dX5_jar_42 (by decide) ?_
      refine x_icmp_eq 60 dX5_jar_43 (by decide) (fun e3 => ?_) (fun e3 => ?_)
      · skip
        refine x_bipush (nI 10) dX5_jar_60 (by decide) ?_
        refine x_iload_n dX5_jar_62 rfl rfl ?_
        refine x_imul dX5_jar_63 ?_
        refine x_val (pk_mul _ _) ?_
        refine x_aload_n dX5_jar_64 rfl rfl ?_
        refine x_iload_n dX5_jar_65 rfl rfl ?_
        refine x_iconst (nI 1) dX5_jar_66 (by decide) ?_
        refine x_cVI (t_ofBatch T (by omega)) okX5_ofBatch clX5 q2223 q2225 qs31 dX5_jar_67 (Or.inl T.1) rfl rfl (by decide) (Nat.zero_le _) (Nat.zero_le _) (Nat.le_of_ble_eq_true rfl) (fun _ => ?_)
        refine x_icmp_le 86 dX5_jar_70 (by decide) (fun e4 => ?_) (fun e4 => ?_)
        · skip
          refine x_aload_n dX5_jar_86 rfl rfl ?_
          refine tg_g T (.inl q2082) dX5_jar_87 ?_
          refine x_bipush (nI 8) dX5_jar_90 (by decide) ?_
          refine tld1 T rfl (by omega) dX5_jar_92 ?_
          refine x_iload_n dX5_jar_93 rfl rfl ?_
          refine x_iadd dX5_jar_94 ?_
          refine x_bipush (nI 20) dX5_jar_95 (by decide) ?_
          refine x_icmp_le 109 dX5_jar_97 (by decide) (fun e5 => ?_) (fun e5 => ?_)
          · skip
            refine x_iload_n dX5_jar_109 rfl rfl ?_
            refine x_aload_n dX5_jar_110 rfl rfl ?_
            refine tg_g T (.inl q2082) dX5_jar_111 ?_
            refine x_iconst (nI 5) dX5_jar_114 (by decide) ?_
            refine tld1 T rfl (by omega) dX5_jar_115 ?_
            refine x_icmp_le 132 dX5_jar_116 (by decide) (fun e6 => ?_) (fun e6 => ?_)
            · skip
              refine x_aload_n dX5_jar_132 rfl rfl ?_
              refine x_aload_n dX5_jar_133 rfl rfl ?_
              refine tg_g T (.inl q2082) dX5_jar_134 ?_
              refine x_cVV (t_keepsF T VO) okX5_keeps clX5 q2167 q2169 qs25 dX5_jar_137 (Or.inl T.1) rfl rfl (by decide) (Nat.zero_le _) (Nat.zero_le _) (Nat.le_of_ble_eq_true rfl) (fun _ => ?_)
              refine x_iconst (nI 0) dX5_jar_140 (by decide) ?_
              refine x_istore_n [(3, .int (nI 0)), (0, .ref a), (1, .int (nI k)), (2, .int (nI m))] dX5_jar_141 rfl (by decide) rfl ?_
              have h20 : nJr g + m ≤ 20 := by
                have z := (show g 8 + nI m ≤ nI 20 by assumption)
                rw [hj0.1, nI_add, nI_leI (by omega) (by omega)] at z
                exact z
              refine x_eq (h' := twh h a (jarsG g (nI k) 0) (kpS S V g) (kpV V)) rfl rfl rfl ?_
              refine x_sub [1, 2, 3, 0] (lv' := [(0, .ref a), (1, .int (nI k)), (2, .int (nI m)), (3, .int (nI 0))]) rfl ?_
              refine x_bud (bc' := 0) (bs' := 0) (by first | exact Nat.zero_le _ | omega) (by first | exact Nat.zero_le _ | omega) ?_
              refine lpN (P := fun i => X G c kX5_jar 2 _ _ _ 0 0 (twh h a (jarsG g (nI k) i) (kpS S V g) (kpV V)) 142 [(0, .ref a), (1, .int (nI k)), (2, .int (nI m)), (3, .int (nI i))] []) m (fun i hi ih => ?_) 0 (Nat.zero_le _)
              obtain ⟨Oi, hJi, hBi⟩ := O.jss (b := k) hk i (by omega)
              have hJ8 := Oi.j
              refine x_iload_n dX5_jar_142 rfl rfl ?_
              refine x_iload_n dX5_jar_143 rfl rfl ?_
              refine x_icmp_ge 206 dX5_jar_144 (by decide) (fun e7 => ?_) (fun e7 => ?_)
              · skip
                have ne7 := e7
                rw [nI_leI (by omega) (by omega)] at ne7
                refine x_aload_n dX5_jar_206 rfl rfl ?_
                refine tg_g T (.inl q2082) dX5_jar_207 ?_
                refine x_iconst (nI 5) dX5_jar_210 (by decide) ?_
                refine x_dup2 dX5_jar_211 rfl rfl ?_
                refine tld1 T rfl (by omega) dX5_jar_212 ?_
                refine x_iload_n dX5_jar_213 rfl rfl ?_
                refine x_isub dX5_jar_214 ?_
                refine tst1 T rfl (by omega) dX5_jar_215 ?_
                refine x_aload_n dX5_jar_216 rfl rfl ?_
                refine x_iload_n dX5_jar_217 rfl rfl ?_
                refine x_iconst (nI 5) dX5_jar_218 (by decide) ?_
                refine x_aload_n dX5_jar_219 rfl rfl ?_
                refine x_iload_n dX5_jar_220 rfl rfl ?_
                refine x_iconst (nI 5) dX5_jar_221 (by decide) ?_
                refine x_cVI (t_ofBatch T (by omega)) okX5_ofBatch clX5 q2223 q2225 qs31 dX5_jar_222 (Or.inl T.1) rfl rfl (by decide) (Nat.zero_le _) (Nat.zero_le _) (Nat.le_of_ble_eq_true rfl) (fun _ => ?_)
                refine x_iload_n dX5_jar_225 rfl rfl ?_
                refine x_iadd dX5_jar_226 ?_
                refine x_cVV (t_laysBatch T (by omega)) okX5_laysBatch clX5 q2200 q2202 qs28 dX5_jar_227 (Or.inl T.1) rfl rfl (by decide) (Nat.zero_le _) (Nat.zero_le _) (Nat.le_of_ble_eq_true rfl) (fun _ => ?_)
                refine x_aload_n dX5_jar_230 rfl rfl ?_
                refine x_iload_n dX5_jar_231 rfl rfl ?_
                refine x_iconst (nI 1) dX5_jar_232 (by decide) ?_
                refine x_aload_n dX5_jar_233 rfl rfl ?_
                refine x_iload_n dX5_jar_234 rfl rfl ?_
                refine x_iconst (nI 1) dX5_jar_235 (by decide) ?_
                refine x_cVI (t_ofBatch T (by omega)) okX5_ofBatch clX5 q2223 q2225 qs31 dX5_jar_236 (Or.inl T.1) rfl rfl (by decide) (Nat.zero_le _) (Nat.zero_le _) (Nat.le_of_ble_eq_true rfl) (fun _ => ?_)
                refine x_bipush (nI 10) dX5_jar_239 (by decide) ?_
                refine x_iload_n dX5_jar_241 rfl rfl ?_
                refine x_imul dX5_jar_242 ?_
                refine x_val (pk_mul _ _) ?_
                refine x_isub dX5_jar_243 ?_
                refine x_cVV (t_laysBatch T (by omega)) okX5_laysBatch clX5 q2200 q2202 qs28 dX5_jar_244 (Or.inl T.1) rfl rfl (by decide) (Nat.zero_le _) (Nat.zero_le _) (Nat.le_of_ble_eq_true rfl) (fun _ => ?_)
                refine x_aload_n dX5_jar_247 rfl rfl ?_
                refine x_iload_n dX5_jar_248 rfl rfl ?_
                refine x_iconst (nI 1) dX5_jar_249 (by decide) ?_
                refine x_cVI (t_ofBatch T (by omega)) okX5_ofBatch clX5 q2223 q2225 qs31 dX5_jar_250 (Or.inl T.1) rfl rfl (by decide) (Nat.zero_le _) (Nat.zero_le _) (Nat.le_of_ble_eq_true rfl) (fun _ => ?_)
                refine x_if_ne 263 dX5_jar_253 (by decide) (fun e8 => ?_) (fun e8 => ?_)
                · skip
                  refine x_aload_n dX5_jar_263 rfl rfl ?_
                  refine tg_g T (.inl q2082) dX5_jar_264 ?_
                  refine x_bipush (nI 8) dX5_jar_267 (by decide) ?_
                  refine tld1 T rfl (by omega) dX5_jar_269 ?_
                  refine x_iconst (nI 1) dX5_jar_270 (by decide) ?_
                  refine x_isub dX5_jar_271 ?_
                  refine x_iret rfl dX5_jar_272 ?_
                  obtain rfl : m = i := by omega
                  have ef : fillG g k m = upd (upd (upd (jarsG g (nI k) m) 5 (((jarsG g (nI k) m) 5) - (nI m))) (25 + 7 * k + 5) ((gb (upd (jarsG g (nI k) m) 5 (((jarsG g (nI k) m) 5) - (nI m))) k 5) + (nI m))) (25 + 7 * k + 1) ((gb (upd (upd (jarsG g (nI k) m) 5 (((jarsG g (nI k) m) 5) - (nI m))) (25 + 7 * k + 5) ((gb (upd (jarsG g (nI k) m) 5 (((jarsG g (nI k) m) 5) - (nI m))) k 5) + (nI m))) k 1) - (nI (10 * m))) := by simp_all [fillG, ← pk_mul, nIl]
                  rw [← ef]
                  rw [show sp_jar g (nI k) (nI m) = okR (fillG g k m 8 - 1) (fillG g k m) from by simp_all [sp_jar, ← pk_mul, nIl, nle_i, nlt_i]]
                  exact ⟨rfl, rfl⟩
                · skip
                  refine x_aload_n dX5_jar_256 rfl rfl ?_
                  refine x_iload_n dX5_jar_257 rfl rfl ?_
                  refine x_iconst (nI 0) dX5_jar_258 (by decide) ?_
                  refine x_iconst (nI 2) dX5_jar_259 (by decide) ?_
                  refine x_cVV (t_laysBatch T (by omega)) okX5_laysBatch clX5 q2200 q2202 qs28 dX5_jar_260 (Or.inl T.1) rfl rfl (by decide) (Nat.zero_le _) (Nat.zero_le _) (Nat.le_of_ble_eq_true rfl) (fun _ => ?_)
                  refine x_aload_n dX5_jar_263 rfl rfl ?_
                  refine tg_g T (.inl q2082) dX5_jar_264 ?_
                  refine x_bipush (nI 8) dX5_jar_267 (by decide) ?_
                  refine tld1 T rfl (by omega) dX5_jar_269 ?_
                  refine x_iconst (nI 1) dX5_jar_270 (by decide) ?_
                  refine x_isub dX5_jar_271 ?_
                  refine x_iret rfl dX5_jar_272 ?_
                  obtain rfl : m = i := by omega
                  have ef : fillG g k m = upd (upd (upd (upd (jarsG g (nI k) m) 5 (((jarsG g (nI k) m) 5) - (nI m))) (25 + 7 * k + 5) ((gb (upd (jarsG g (nI k) m) 5 (((jarsG g (nI k) m) 5) - (nI m))) k 5) + (nI m))) (25 + 7 * k + 1) ((gb (upd (upd (jarsG g (nI k) m) 5 (((jarsG g (nI k) m) 5) - (nI m))) (25 + 7 * k + 5) ((gb (upd (jarsG g (nI k) m) 5 (((jarsG g (nI k) m) 5) - (nI m))) k 5) + (nI m))) k 1) - (nI (10 * m)))) (25 + 7 * k + 0) (nI 2) := by simp_all [fillG, ← pk_mul, nIl]
                  rw [← ef]
                  rw [show sp_jar g (nI k) (nI m) = okR (fillG g k m 8 - 1) (fillG g k m) from by simp_all [sp_jar, ← pk_mul, nIl, nle_i, nlt_i]]
                  exact ⟨rfl, rfl⟩
              · skip
                have ne7 := e7
                rw [nI_leI (by omega) (by omega)] at ne7
                refine x_iconst (nI 0) dX5_jar_147 (by decide) ?_
                refine x_istore [(4, .int (nI 0)), (0, .ref a), (1, .int (nI k)), (2, .int (nI m)), (3, .int (nI i))] dX5_jar_148 (by decide) rfl ?_
                have hi20 : nJr (jarsG g (nI k) i) < 20 := by omega
                refine x_eq (h' := twh h a (zr (jarsG g (nI k) i) (109 + 4 * nJr (jarsG g (nI k) i)) 0) (kpS S V g) (kpV V)) rfl rfl rfl ?_
                refine x_sub [1, 2, 3, 4, 0] (lv' := [(0, .ref a), (1, .int (nI k)), (2, .int (nI m)), (3, .int (nI i)), (4, .int (nI 0))]) rfl ?_
                refine x_bud (bc' := 0) (bs' := 0) (by first | exact Nat.zero_le _ | omega) (by first | exact Nat.zero_le _ | omega) ?_
                refine lpN (P := fun r => X G c kX5_jar 2 _ _ _ 0 0 (twh h a (zr (jarsG g (nI k) i) (109 + 4 * nJr (jarsG g (nI k) i)) r) (kpS S V g) (kpV V)) 150 [(0, .ref a), (1, .int (nI k)), (2, .int (nI m)), (3, .int (nI i)), (4, .int (nI r))] []) 4 (fun r hr ihr => ?_) 0 (Nat.zero_le _)
                refine x_iload dX5_jar_150 rfl ?_
                refine x_iconst (nI 4) dX5_jar_152 (by decide) ?_
                refine x_icmp_ge 176 dX5_jar_153 (by decide) (fun e9 => ?_) (fun e9 => ?_)
                · skip
                  have ne9 := e9
                  rw [nI_leI (by omega) (by omega)] at ne9
                  refine x_eq (h' := twh h a (zr (jarsG g (nI k) i) (109 + 4 * nJr (jarsG g (nI k) i)) 4) (kpS S V g) (kpV V)) (by rw [show r = 4 by omega]) rfl rfl ?_
                  refine x_sub [0, 1, 2, 3] (lv' := [(0, .ref a), (1, .int (nI k)), (2, .int (nI m)), (3, .int (nI i))]) rfl ?_
                  refine x_aload_n dX5_jar_176 rfl rfl ?_
                  refine x_aload_n dX5_jar_177 rfl rfl ?_
                  refine tg_g T (.inl q2082) dX5_jar_178 ?_
                  refine x_bipush (nI 8) dX5_jar_181 (by decide) ?_
                  refine tld1 T rfl (by omega) dX5_jar_183 ?_
                  refine x_val ((zr_ne (by omega)).trans hJ8.1) ?_
                  refine x_iconst (nI 1) dX5_jar_184 (by decide) ?_
                  refine x_iload_n dX5_jar_185 rfl rfl ?_
                  refine x_cVV (t_laysJar T (by omega)) okX5_laysJar clX5 q2239 q2241 qs33 dX5_jar_186 (Or.inl T.1) rfl rfl (by decide) (Nat.zero_le _) (Nat.zero_le _) (Nat.le_of_ble_eq_true rfl) (fun _ => ?_)
                  refine x_aload_n dX5_jar_189 rfl rfl ?_
                  refine tg_g T (.inl q2082) dX5_jar_190 ?_
                  refine x_bipush (nI 8) dX5_jar_193 (by decide) ?_
                  refine x_dup2 dX5_jar_195 rfl rfl ?_
                  refine tld1 T rfl (by omega) dX5_jar_196 ?_
                  refine x_val ((pk_un (by omega)).trans ((zr_ne (by omega)).trans hJ8.1)) ?_
                  refine x_iconst (nI 1) dX5_jar_197 (by decide) ?_
                  refine x_iadd dX5_jar_198 ?_
                  refine x_val (nI_add _ _) ?_
                  refine tst1 T rfl (by omega) dX5_jar_199 ?_
                  refine x_iinc (j := 3) (nI (i + 1)) [(3, .int (nI (i + 1))), (0, .ref a), (1, .int (nI k)), (2, .int (nI m))] dX5_jar_200 rfl (by first | exact nI_add _ _ | decide) (by decide) rfl ?_
                  refine x_goto 142 dX5_jar_203 (by decide) ?_
                  refine x_sub [1, 2, 3, 0] (lv' := [(0, .ref a), (1, .int (nI k)), (2, .int (nI m)), (3, .int (nI (i + 1)))]) rfl ?_
                  refine x_eq (h' := twh h a (jarsG g (nI k) (i + 1)) (kpS S V g) (kpV V)) rfl rfl rfl ?_
                  exact ih (by omega)
                · skip
                  have ne9 := e9
                  rw [nI_leI (by omega) (by omega)] at ne9
                  refine x_aload_n dX5_jar_156 rfl rfl ?_
                  refine x_aload_n dX5_jar_157 rfl rfl ?_
                  refine tg_g T (.inl q2082) dX5_jar_158 ?_
                  refine x_bipush (nI 8) dX5_jar_161 (by decide) ?_
                  refine tld1 T rfl (by omega) dX5_jar_163 ?_
                  refine x_val ((zr_ne (by omega)).trans hJ8.1) ?_
                  refine x_iload dX5_jar_164 rfl ?_
                  refine x_iconst (nI 0) dX5_jar_166 (by decide) ?_
                  refine x_cVV (t_laysJar T (by omega)) okX5_laysJar clX5 q2239 q2241 qs33 dX5_jar_167 (Or.inl T.1) rfl rfl (by decide) (Nat.zero_le _) (Nat.zero_le _) (Nat.le_of_ble_eq_true rfl) (fun _ => ?_)
                  refine x_iinc (j := 4) (nI (r + 1)) [(4, .int (nI (r + 1))), (0, .ref a), (1, .int (nI k)), (2, .int (nI m)), (3, .int (nI i))] dX5_jar_170 rfl (by first | exact nI_add _ _ | decide) (by decide) rfl ?_
                  refine x_goto 150 dX5_jar_173 (by decide) ?_
                  refine x_sub [1, 2, 3, 4, 0] (lv' := [(0, .ref a), (1, .int (nI k)), (2, .int (nI m)), (3, .int (nI i)), (4, .int (nI (r + 1)))]) rfl ?_
                  refine x_eq (h' := twh h a (zr (jarsG g (nI k) i) (109 + 4 * nJr (jarsG g (nI k) i)) (r + 1)) (kpS S V g) (kpV V)) rfl rfl rfl ?_
                  exact ihr (by omega)
            · skip
              refine x_aload_n dX5_jar_119 rfl rfl ?_
              refine x_iconst (nI 3) dX5_jar_120 (by decide) ?_
              refine x_iconst (nI 2) dX5_jar_121 (by decide) ?_
              refine x_aload_n dX5_jar_122 rfl rfl ?_
              refine tg_g T (.inl q2082) dX5_jar_123 ?_
              refine x_iconst (nI 5) dX5_jar_126 (by decide) ?_
              refine tld1 T rfl (by omega) dX5_jar_127 ?_
              refine x_cVI (t_refuses T) okX5_refuses clX5 q2163 q2165 qs24 dX5_jar_128 (Or.inl T.1) rfl rfl (by decide) (Nat.zero_le _) (Nat.zero_le _) (Nat.le_of_ble_eq_true rfl) (fun _ => ?_)
              refine x_iret rfl dX5_jar_131 ?_
              rw [show sp_jar g (nI k) (nI m) = refR (nI 2) (g 5) g from by simp_all [sp_jar, ← pk_mul, ← nI_add, nIl, ixl, nle_i, nlt_i]]
              exact ⟨rfl, by simp only [twR, upd_uu]; try rfl⟩
          · skip
            refine x_aload_n dX5_jar_100 rfl rfl ?_
            refine x_iconst (nI 3) dX5_jar_101 (by decide) ?_
            refine x_iconst (nI 1) dX5_jar_102 (by decide) ?_
            refine x_bipush (nI 20) dX5_jar_103 (by decide) ?_
            refine x_cVI (t_refuses T) okX5_refuses clX5 q2163 q2165 qs24 dX5_jar_105 (Or.inl T.1) rfl rfl (by decide) (Nat.zero_le _) (Nat.zero_le _) (Nat.le_of_ble_eq_true rfl) (fun _ => ?_)
            refine x_iret rfl dX5_jar_108 ?_
            rw [show sp_jar g (nI k) (nI m) = refR (nI 1) (nI 20) g from by simp_all [sp_jar, ← pk_mul, ← nI_add, nIl, ixl, nle_i, nlt_i]]
            exact ⟨rfl, by simp only [twR, upd_uu]; try rfl⟩
        · skip
          refine x_aload_n dX5_jar_73 rfl rfl ?_
          refine x_iconst (nI 3) dX5_jar_74 (by decide) ?_
          refine x_iconst (nI 2) dX5_jar_75 (by decide) ?_
          refine x_aload_n dX5_jar_76 rfl rfl ?_
          refine x_iload_n dX5_jar_77 rfl rfl ?_
          refine x_iconst (nI 1) dX5_jar_78 (by decide) ?_
          refine x_cVI (t_ofBatch T (by omega)) okX5_ofBatch clX5 q2223 q2225 qs31 dX5_jar_79 (Or.inl T.1) rfl rfl (by decide) (Nat.zero_le _) (Nat.zero_le _) (Nat.le_of_ble_eq_true rfl) (fun _ => ?_)
          refine x_cVI (t_refuses T) okX5_refuses clX5 q2163 q2165 qs24 dX5_jar_82 (Or.inl T.1) rfl rfl (by decide) (Nat.zero_le _) (Nat.zero_le _) (Nat.le_of_ble_eq_true rfl) (fun _ => ?_)
          refine x_iret rfl dX5_jar_85 ?_
          rw [show sp_jar g (nI k) (nI m) = refR (nI 2) (gb g k 1) g from by simp_all [sp_jar, ← pk_mul, ← nI_add, nIl, ixl, nle_i, nlt_i]]
          exact ⟨rfl, by simp only [twR, upd_uu]; try rfl⟩
      · skip
        refine x_aload_n dX5_jar_46 rfl rfl ?_
        refine x_iconst (nI 3) dX5_jar_47 (by decide) ?_
        refine x_bipush (nI 7) dX5_jar_48 (by decide) ?_
        refine x_aload_n dX5_jar_50 rfl rfl ?_
        refine x_iload_n dX5_jar_51 rfl rfl ?_
        refine x_iconst (nI 0) dX5_jar_52 (by decide) ?_
        refine x_cVI (t_ofBatch T (by omega)) okX5_ofBatch clX5 q2223 q2225 qs31 dX5_jar_53 (Or.inl T.1) rfl rfl (by decide) (Nat.zero_le _) (Nat.zero_le _) (Nat.le_of_ble_eq_true rfl) (fun _ => ?_)
        refine x_cVI (t_refuses T) okX5_refuses clX5 q2163 q2165 qs24 dX5_jar_56 (Or.inl T.1) rfl rfl (by decide) (Nat.zero_le _) (Nat.zero_le _) (Nat.le_of_ble_eq_true rfl) (fun _ => ?_)
        refine x_iret rfl dX5_jar_59 ?_
        rw [show sp_jar g (nI k) (nI m) = refR (nI 7) (gb g k 0) g from by simp_all [sp_jar, ← pk_mul, ← nI_add, nIl, ixl, nle_i, nlt_i]]
        exact ⟨rfl, by simp only [twR, upd_uu]; try rfl⟩
  · skip
    refine x_iconst (nI 1) dX5_jar_9 (by decide) ?_
    refine x_goto 28 dX5_jar_10 (by decide) ?_
    refine x_cVI (t_fails1 T) okX5_fails clX5 q2159 q2161 qs23 dX5_jar_28 (Or.inl T.1) rfl rfl (by decide) (Nat.zero_le _) (Nat.zero_le _) (Nat.le_of_ble_eq_true rfl) (fun _ => ?_)
    refine x_if_eq 36 dX5_jar_31 (by decide) (fun z => False.elim (by revert z; decide)) (fun _ => ?_)
    refine x_iconst (nI 0) dX5_jar_34 (by decide) ?_
    refine x_iret rfl dX5_jar_35 ?_
    rw [show sp_jar g x y = iobR g from by simp_all [sp_jar, ← pk_mul, ← nI_add, nIl, ixl, nle_i, nlt_i]]
    exact ⟨rfl, by simp only [twR, upd_uu]; try rfl⟩
theorem dbdS_s {r bt : Int32} {d : Nat} : dbdS r bt (d + 1) = if nI (d + 1) ≤ r then ((dbdS r bt d).1 + bt - ((dbdS r bt d).1 + bt) / r * r, (dbdS r bt d).2.1 + ((dbdS r bt d).1 + bt) / r, (dbdS r bt d).2.2) else ((dbdS r bt d).1, if (dbdS r bt d).2.2 + 1 - ((dbdS r bt d).2.2 + 1) / 3 * 3 = 0 ∧ 0 < (dbdS r bt d).2.1 then (dbdS r bt d).2.1 + -1 else (dbdS r bt d).2.1, (dbdS r bt d).2.2 + 1) := rfl
theorem X_lvs {G : GG} {c : CX} {K : KX} {d mc ms : Nat} {Q : OC → AH → Prop} {bc bs : Nat} {h : AH} {pc : Nat} {lv lv' : List (Nat × Value)} {st : List Value} (e : lv = lv') (k : X G c K d mc ms Q bc bs h pc lv' st) : X G c K d mc ms Q bc bs h pc lv st := e ▸ k
theorem t_dayByDay {G : GG} {h : AH} {a : Nat} {g : Nat → Int32} {S : Nat → Nat → Int32} {V : Nat → Int32} (T : Tw h a) {j n : Nat} (O : GOk g) (hb : j < 12) (hn : n < 1000) : Cal G kX5_dayByDay 2 0 0 [.ref a, .int (nI j), .int (nI n)] (twh h a g S V) (rI (dayByDay g j n) (twh h a g S V)) := by
  refine Cal.of (by decide +kernel) (Nat.le_of_ble_eq_true rfl) (fun c => ?_)
  refine x_aload_n dX5_dayByDay_0 rfl rfl ?_
  refine x_iload_n dX5_dayByDay_1 rfl rfl ?_
  refine x_cVI (t_ripeIn T (by first | omega | exact (O.of (by omega)).2.2)) okX5_ripeIn clX5 q2227 q2229 qs32 dX5_dayByDay_2 (Or.inl T.1) rfl rfl (by decide) (Nat.zero_le _) (Nat.zero_le _) (Nat.le_of_ble_eq_true rfl) (fun _ => ?_)
  refine x_istore_n [(3, .int (ripeIn g j)), (0, .ref a), (1, .int (nI j)), (2, .int (nI n))] dX5_dayByDay_5 rfl (by decide) rfl ?_
  refine x_iconst (nI 0) dX5_dayByDay_6 (by decide) ?_
  refine x_istore [(4, .int (nI 0)), (3, .int (ripeIn g j)), (0, .ref a), (1, .int (nI j)), (2, .int (nI n))] dX5_dayByDay_7 (by decide) rfl ?_
  refine x_iconst (nI 0) dX5_dayByDay_9 (by decide) ?_
  refine x_istore [(5, .int (nI 0)), (4, .int (nI 0)), (3, .int (ripeIn g j)), (0, .ref a), (1, .int (nI j)), (2, .int (nI n))] dX5_dayByDay_10 (by decide) rfl ?_
  refine x_iconst (nI 0) dX5_dayByDay_12 (by decide) ?_
  refine x_istore [(6, .int (nI 0)), (5, .int (nI 0)), (4, .int (nI 0)), (3, .int (ripeIn g j)), (0, .ref a), (1, .int (nI j)), (2, .int (nI n))] dX5_dayByDay_13 (by decide) rfl ?_
  refine x_iconst (nI 1) dX5_dayByDay_15 (by decide) ?_
  refine x_istore [(7, .int (nI 1)), (6, .int (nI 0)), (5, .int (nI 0)), (4, .int (nI 0)), (3, .int (ripeIn g j)), (0, .ref a), (1, .int (nI j)), (2, .int (nI n))] dX5_dayByDay_16 (by decide) rfl ?_
  refine x_eq (st' := []) rfl rfl rfl ?_
  refine x_sub [5, 6, 7, 4, 3, 2, 1, 0] (lv' := [(0, .ref a), (1, .int (nI j)), (2, .int (nI n)), (3, .int (ripeIn g j)), (4, .int (nI 0)), (5, .int (nI 0)), (6, .int (nI 0)), (7, .int (nI 1))]) rfl ?_
  refine x_bud (bc' := 0) (bs' := 0) (by first | exact Nat.zero_le _ | omega) (by first | exact Nat.zero_le _ | omega) ?_
  refine lpN (P := fun i => X G c kX5_dayByDay 2 _ _ _ 0 0 (twh h a g S V) 18 [(0, .ref a), (1, .int (nI j)), (2, .int (nI n)), (3, .int (ripeIn g j)), (4, .int ((dbdS (ripeIn g j) (gb g j 3) i).1)), (5, .int ((dbdS (ripeIn g j) (gb g j 3) i).2.1)), (6, .int ((dbdS (ripeIn g j) (gb g j 3) i).2.2)), (7, .int (nI (i + 1)))] []) n (fun i hi ih => ?_) 0 (Nat.zero_le _)
  refine x_iload dX5_dayByDay_18 rfl ?_
  refine x_iload_n dX5_dayByDay_20 rfl rfl ?_
  refine x_icmp_gt 83 dX5_dayByDay_21 (by decide) (fun e1 => ?_) (fun e1 => ?_)
  · skip
    have ne1 := e1
    rw [nI_ltI (by omega) (by omega)] at ne1
    refine x_iload dX5_dayByDay_83 rfl ?_
    refine x_iret rfl dX5_dayByDay_85 ?_
    exact rI_of (by rw [show i = n by omega]; rfl)
  · skip
    have ne1 := e1
    rw [nI_ltI (by omega) (by omega)] at ne1
    refine x_iload dX5_dayByDay_24 rfl ?_
    refine x_iload_n dX5_dayByDay_26 rfl rfl ?_
    refine x_icmp_gt 59 dX5_dayByDay_27 (by decide) (fun e2 => ?_) (fun e2 => ?_)
    · skip
      refine x_iinc (j := 6) ((dbdS (ripeIn g j) (gb g j 3) i).2.2 + 1) [(6, .int ((dbdS (ripeIn g j) (gb g j 3) i).2.2 + 1)), (0, .ref a), (1, .int (nI j)), (2, .int (nI n)), (3, .int (ripeIn g j)), (4, .int ((dbdS (ripeIn g j) (gb g j 3) i).1)), (5, .int ((dbdS (ripeIn g j) (gb g j 3) i).2.1)), (7, .int (nI (i + 1)))] dX5_dayByDay_59 rfl rfl (by decide) rfl ?_
      refine x_iload dX5_dayByDay_62 rfl ?_
      refine x_iconst (nI 3) dX5_dayByDay_64 (by decide) ?_
      refine x_irem dX5_dayByDay_65 (by decide) ?_
      refine x_if_ne 77 dX5_dayByDay_66 (by decide) (fun e3 => ?_) (fun e3 => ?_)
      · skip
        refine x_iinc (j := 7) (nI (i + 1 + 1)) [(7, .int (nI (i + 1 + 1))), (6, .int ((dbdS (ripeIn g j) (gb g j 3) i).2.2 + 1)), (0, .ref a), (1, .int (nI j)), (2, .int (nI n)), (3, .int (ripeIn g j)), (4, .int ((dbdS (ripeIn g j) (gb g j 3) i).1)), (5, .int ((dbdS (ripeIn g j) (gb g j 3) i).2.1))] dX5_dayByDay_77 rfl (by first | exact nI_add _ _ | decide) (by decide) rfl ?_
        refine x_goto 18 dX5_dayByDay_80 (by decide) ?_
        refine x_sub [2, 3, 4, 5, 6, 7, 1, 0] (lv' := [(0, .ref a), (1, .int (nI j)), (2, .int (nI n)), (3, .int (ripeIn g j)), (4, .int ((dbdS (ripeIn g j) (gb g j 3) i).1)), (5, .int ((dbdS (ripeIn g j) (gb g j 3) i).2.1)), (6, .int ((dbdS (ripeIn g j) (gb g j 3) i).2.2 + 1)), (7, .int (nI (i + 1 + 1)))]) rfl ?_
        have ed : dbdS (ripeIn g j) (gb g j 3) (i + 1) = ((dbdS (ripeIn g j) (gb g j 3) i).1, (dbdS (ripeIn g j) (gb g j 3) i).2.1, (dbdS (ripeIn g j) (gb g j 3) i).2.2 + 1) := by
          rw [dbdS_s]
          simp_all [nIl, nle_i, nlt_i]
        refine x_eq (h' := twh h a g S V) rfl rfl rfl ?_
        refine X_lvs (lv' := [(0, .ref a), (1, .int (nI j)), (2, .int (nI n)), (3, .int (ripeIn g j)), (4, .int ((dbdS (ripeIn g j) (gb g j 3) (i + 1)).1)), (5, .int ((dbdS (ripeIn g j) (gb g j 3) (i + 1)).2.1)), (6, .int ((dbdS (ripeIn g j) (gb g j 3) (i + 1)).2.2)), (7, .int (nI (i + 1 + 1)))]) (by rw [ed]) ?_
        exact ih (by omega)
      · skip
        refine x_iload dX5_dayByDay_69 rfl ?_
        refine x_if_le 77 dX5_dayByDay_71 (by decide) (fun e4 => ?_) (fun e4 => ?_)
        · skip
          refine x_iinc (j := 7) (nI (i + 1 + 1)) [(7, .int (nI (i + 1 + 1))), (6, .int ((dbdS (ripeIn g j) (gb g j 3) i).2.2 + 1)), (0, .ref a), (1, .int (nI j)), (2, .int (nI n)), (3, .int (ripeIn g j)), (4, .int ((dbdS (ripeIn g j) (gb g j 3) i).1)), (5, .int ((dbdS (ripeIn g j) (gb g j 3) i).2.1))] dX5_dayByDay_77 rfl (by first | exact nI_add _ _ | decide) (by decide) rfl ?_
          refine x_goto 18 dX5_dayByDay_80 (by decide) ?_
          refine x_sub [2, 3, 4, 5, 6, 7, 1, 0] (lv' := [(0, .ref a), (1, .int (nI j)), (2, .int (nI n)), (3, .int (ripeIn g j)), (4, .int ((dbdS (ripeIn g j) (gb g j 3) i).1)), (5, .int ((dbdS (ripeIn g j) (gb g j 3) i).2.1)), (6, .int ((dbdS (ripeIn g j) (gb g j 3) i).2.2 + 1)), (7, .int (nI (i + 1 + 1)))]) rfl ?_
          have ed : dbdS (ripeIn g j) (gb g j 3) (i + 1) = ((dbdS (ripeIn g j) (gb g j 3) i).1, (dbdS (ripeIn g j) (gb g j 3) i).2.1, (dbdS (ripeIn g j) (gb g j 3) i).2.2 + 1) := by
            rw [dbdS_s]
            simp_all [nIl, nle_i, nlt_i]
          refine x_eq (h' := twh h a g S V) rfl rfl rfl ?_
          refine X_lvs (lv' := [(0, .ref a), (1, .int (nI j)), (2, .int (nI n)), (3, .int (ripeIn g j)), (4, .int ((dbdS (ripeIn g j) (gb g j 3) (i + 1)).1)), (5, .int ((dbdS (ripeIn g j) (gb g j 3) (i + 1)).2.1)), (6, .int ((dbdS (ripeIn g j) (gb g j 3) (i + 1)).2.2)), (7, .int (nI (i + 1 + 1)))]) (by rw [ed]) ?_
          exact ih (by omega)
        · skip
          refine x_iinc (j := 6) (((dbdS (ripeIn g j) (gb g j 3) i).2.1) + (-1)) [(5, .int (((dbdS (ripeIn g j) (gb g j 3) i).2.1) + (-1))), (6, .int ((dbdS (ripeIn g j) (gb g j 3) i).2.2 + 1)), (0, .ref a), (1, .int (nI j)), (2, .int (nI n)), (3, .int (ripeIn g j)), (4, .int ((dbdS (ripeIn g j) (gb g j 3) i).1)), (7, .int (nI (i + 1)))] dX5_dayByDay_74 rfl rfl (by decide) rfl ?_
          refine x_iinc (j := 7) (nI (i + 1 + 1)) [(7, .int (nI (i + 1 + 1))), (5, .int (((dbdS (ripeIn g j) (gb g j 3) i).2.1) + (-1))), (6, .int ((dbdS (ripeIn g j) (gb g j 3) i).2.2 + 1)), (0, .ref a), (1, .int (nI j)), (2, .int (nI n)), (3, .int (ripeIn g j)), (4, .int ((dbdS (ripeIn g j) (gb g j 3) i).1))] dX5_dayByDay_77 rfl (by first | exact nI_add _ _ | decide) (by decide) rfl ?_
          refine x_goto 18 dX5_dayByDay_80 (by decide) ?_
          refine x_sub [3, 4, 5, 6, 7, 1, 2, 0] (lv' := [(0, .ref a), (1, .int (nI j)), (2, .int (nI n)), (3, .int (ripeIn g j)), (4, .int ((dbdS (ripeIn g j) (gb g j 3) i).1)), (5, .int (((dbdS (ripeIn g j) (gb g j 3) i).2.1) + (-1))), (6, .int ((dbdS (ripeIn g j) (gb g j 3) i).2.2 + 1)), (7, .int (nI (i + 1 + 1)))]) rfl ?_
          have ed : dbdS (ripeIn g j) (gb g j 3) (i + 1) = ((dbdS (ripeIn g j) (gb g j 3) i).1, ((dbdS (ripeIn g j) (gb g j 3) i).2.1) + (-1), (dbdS (ripeIn g j) (gb g j 3) i).2.2 + 1) := by
            rw [dbdS_s]
            simp_all [nIl, nle_i, nlt_i]
          refine x_eq (h' := twh h a g S V) rfl rfl rfl ?_
          refine X_lvs (lv' := [(0, .ref a), (1, .int (nI j)), (2, .int (nI n)), (3, .int (ripeIn g j)), (4, .int ((dbdS (ripeIn g j) (gb g j 3) (i + 1)).1)), (5, .int ((dbdS (ripeIn g j) (gb g j 3) (i + 1)).2.1)), (6, .int ((dbdS (ripeIn g j) (gb g j 3) (i + 1)).2.2)), (7, .int (nI (i + 1 + 1)))]) (by rw [ed]) ?_
          exact ih (by omega)
    · skip
      refine x_iload dX5_dayByDay_30 rfl ?_
      refine x_aload_n dX5_dayByDay_32 rfl rfl ?_
      refine x_iload_n dX5_dayByDay_33 rfl rfl ?_
      refine x_iconst (nI 3) dX5_dayByDay_34 (by decide) ?_
      refine x_cVI (t_ofBatch T (by omega)) okX5_ofBatch clX5 q2223 q2225 qs31 dX5_dayByDay_35 (Or.inl T.1) rfl rfl (by decide) (Nat.zero_le _) (Nat.zero_le _) (Nat.le_of_ble_eq_true rfl) (fun _ => ?_)
      refine x_iadd dX5_dayByDay_38 ?_
      refine x_istore [(4, .int (((dbdS (ripeIn g j) (gb g j 3) i).1) + (gb g j 3))), (0, .ref a), (1, .int (nI j)), (2, .int (nI n)), (3, .int (ripeIn g j)), (5, .int ((dbdS (ripeIn g j) (gb g j 3) i).2.1)), (6, .int ((dbdS (ripeIn g j) (gb g j 3) i).2.2)), (7, .int (nI (i + 1)))] dX5_dayByDay_39 (by decide) rfl ?_
      refine x_iload dX5_dayByDay_41 rfl ?_
      refine x_iload dX5_dayByDay_43 rfl ?_
      refine x_iload_n dX5_dayByDay_45 rfl rfl ?_
      refine x_idiv dX5_dayByDay_46 (O.rnz hb) ?_
      refine x_iadd dX5_dayByDay_47 ?_
      refine x_istore [(5, .int (((dbdS (ripeIn g j) (gb g j 3) i).2.1) + ((((dbdS (ripeIn g j) (gb g j 3) i).1) + (gb g j 3)) / (ripeIn g j)))), (4, .int (((dbdS (ripeIn g j) (gb g j 3) i).1) + (gb g j 3))), (0, .ref a), (1, .int (nI j)), (2, .int (nI n)), (3, .int (ripeIn g j)), (6, .int ((dbdS (ripeIn g j) (gb g j 3) i).2.2)), (7, .int (nI (i + 1)))] dX5_dayByDay_48 (by decide) rfl ?_
      refine x_iload dX5_dayByDay_50 rfl ?_
      refine x_iload_n dX5_dayByDay_52 rfl rfl ?_
      refine x_irem dX5_dayByDay_53 (O.rnz hb) ?_
      refine x_istore [(4, .int ((((dbdS (ripeIn g j) (gb g j 3) i).1) + (gb g j 3)) - (((dbdS (ripeIn g j) (gb g j 3) i).1) + (gb g j 3)) / (ripeIn g j) * (ripeIn g j))), (5, .int (((dbdS (ripeIn g j) (gb g j 3) i).2.1) + ((((dbdS (ripeIn g j) (gb g j 3) i).1) + (gb g j 3)) / (ripeIn g j)))), (0, .ref a), (1, .int (nI j)), (2, .int (nI n)), (3, .int (ripeIn g j)), (6, .int ((dbdS (ripeIn g j) (gb g j 3) i).2.2)), (7, .int (nI (i + 1)))] dX5_dayByDay_54 (by decide) rfl ?_
      refine x_goto 77 dX5_dayByDay_56 (by decide) ?_
      refine x_iinc (j := 7) (nI (i + 1 + 1)) [(7, .int (nI (i + 1 + 1))), (4, .int ((((dbdS (ripeIn g j) (gb g j 3) i).1) + (gb g j 3)) - (((dbdS (ripeIn g j) (gb g j 3) i).1) + (gb g j 3)) / (ripeIn g j) * (ripeIn g j))), (5, .int (((dbdS (ripeIn g j) (gb g j 3) i).2.1) + ((((dbdS (ripeIn g j) (gb g j 3) i).1) + (gb g j 3)) / (ripeIn g j)))), (0, .ref a), (1, .int (nI j)), (2, .int (nI n)), (3, .int (ripeIn g j)), (6, .int ((dbdS (ripeIn g j) (gb g j 3) i).2.2))] dX5_dayByDay_77 rfl (by first | exact nI_add _ _ | decide) (by decide) rfl ?_
      refine x_goto 18 dX5_dayByDay_80 (by decide) ?_
      refine x_sub [3, 4, 5, 6, 1, 2, 7, 0] (lv' := [(0, .ref a), (1, .int (nI j)), (2, .int (nI n)), (3, .int (ripeIn g j)), (4, .int ((((dbdS (ripeIn g j) (gb g j 3) i).1) + (gb g j 3)) - (((dbdS (ripeIn g j) (gb g j 3) i).1) + (gb g j 3)) / (ripeIn g j) * (ripeIn g j))), (5, .int (((dbdS (ripeIn g j) (gb g j 3) i).2.1) + ((((dbdS (ripeIn g j) (gb g j 3) i).1) + (gb g j 3)) / (ripeIn g j)))), (6, .int ((dbdS (ripeIn g j) (gb g j 3) i).2.2)), (7, .int (nI (i + 1 + 1)))]) rfl ?_
      have ed : dbdS (ripeIn g j) (gb g j 3) (i + 1) = ((((dbdS (ripeIn g j) (gb g j 3) i).1) + (gb g j 3)) - (((dbdS (ripeIn g j) (gb g j 3) i).1) + (gb g j 3)) / (ripeIn g j) * (ripeIn g j), ((dbdS (ripeIn g j) (gb g j 3) i).2.1) + ((((dbdS (ripeIn g j) (gb g j 3) i).1) + (gb g j 3)) / (ripeIn g j)), (dbdS (ripeIn g j) (gb g j 3) i).2.2) := by
        rw [dbdS_s]
        simp_all [nIl, nle_i, nlt_i]
      refine x_eq (h' := twh h a g S V) rfl rfl rfl ?_
      refine X_lvs (lv' := [(0, .ref a), (1, .int (nI j)), (2, .int (nI n)), (3, .int (ripeIn g j)), (4, .int ((dbdS (ripeIn g j) (gb g j 3) (i + 1)).1)), (5, .int ((dbdS (ripeIn g j) (gb g j 3) (i + 1)).2.1)), (6, .int ((dbdS (ripeIn g j) (gb g j 3) (i + 1)).2.2)), (7, .int (nI (i + 1 + 1)))]) (by rw [ed]) ?_
      exact ih (by omega)
theorem t_tearBehind {G : GG} {h : AH} {a : Nat} {g : Nat → Int32} {S : Nat → Nat → Int32} {V : Nat → Int32} (T : Tw h a) (O : GOk g) {x : Int32} {y : Int32} {z : Bool} : Cal G kX5_tearBehind 3 0 0 [.ref a, .int x, .int y, .int (bB z)] (twh h a g S V) (rI (sp_tearBehind g x y z).2 (twQ h a g S V (sp_tearBehind g x y z))) := by
  refine Cal.of (by decide +kernel) (Nat.le_of_ble_eq_true rfl) (fun c => ?_)
  have hb0 := O.b
  have hj0 := O.j
  have ho0 := O.o
  refine x_aload_n dX5_tearBehind_0 rfl rfl ?_
  refine x_aload_n dX5_tearBehind_1 rfl rfl ?_
  refine x_iload_n dX5_tearBehind_2 rfl rfl ?_
  refine x_cVI (t_isBatch T) okX5_isBatch clX5 q2219 q2221 qs30 dX5_tearBehind_3 (Or.inl T.1) rfl rfl (by decide) (Nat.zero_le _) (Nat.zero_le _) (Nat.le_of_ble_eq_true rfl) (fun _ => ?_)
  refine x_if_neB 13 dX5_tearBehind_6 (by decide) (fun e1 => ?_) (fun e1 => ?_)
  · skip
    obtain ⟨k, hk, rfl⟩ := inB_m O.b.1 (by omega) e1
    have xk : (nI k).toNatClampNeg = k := ix_nI (by omega)
    refine x_iload_n dX5_tearBehind_13 rfl rfl ?_
    refine x_iconst (nI 0) dX5_tearBehind_14 (by decide) ?_
    refine x_bipush (nI 99) dX5_tearBehind_15 (by decide) ?_
    refine x_cSI t_in okX5_in q2156 q2157 dX5_tearBehind_17 rfl rfl (by decide) (Nat.zero_le _) (Nat.zero_le _) (Nat.le_of_ble_eq_true rfl) (fun _ => ?_)
    refine x_if_neB 27 dX5_tearBehind_20 (by decide) (fun e2 => ?_) (fun e2 => ?_)
    · skip
      obtain ⟨n, hn, rfl⟩ := inB_n (n := 99) (by decide) e2
      have xn : (nI n).toNatClampNeg = n := ix_nI (by omega)
      refine x_aload_n dX5_tearBehind_27 rfl rfl ?_
      refine x_iload_n dX5_tearBehind_28 rfl rfl ?_
      refine x_iconst (nI 0) dX5_tearBehind_29 (by decide) ?_
      refine x_cVI (t_ofBatch T (by omega)) okX5_ofBatch clX5 q2223 q2225 qs31 dX5_tearBehind_30 (Or.inl T.1) rfl rfl (by decide) (Nat.zero_le _) (Nat.zero_le _) (Nat.le_of_ble_eq_true rfl) (fun _ => ?_)
      refine x_if_ne 40 dX5_tearBehind_33 (by decide) (fun e3 => ?_) (fun e3 => ?_)
      · skip
        refine x_iconst (nI 0) dX5_tearBehind_40 (by decide) ?_
        refine x_cVI (t_fails0 T) okX5_fails clX5 q2159 q2161 qs23 dX5_tearBehind_41 (Or.inl T.1) rfl rfl (by decide) (Nat.zero_le _) (Nat.zero_le _) (Nat.le_of_ble_eq_true rfl) (fun _ => ?_)
        refine x_if_eq 49 dX5_tearBehind_44 (by decide) (fun _ => ?_) (fun z => False.elim (by revert z; decide))
        refine x_iload_n dX5_tearBehind_49 rfl rfl ?_
        refine x_if_eqB 62 dX5_tearBehind_50 (by decide) (fun e4 => ?_) (fun e4 => ?_)
        · skip
          refine x_aload_n dX5_tearBehind_62 rfl rfl ?_
          refine x_iload_n dX5_tearBehind_63 rfl rfl ?_
          refine x_iload_n dX5_tearBehind_64 rfl rfl ?_
          refine x_cVI (t_tearAt T O (by first | omega | exact (O.of (by omega)).2.2)) okX5_tearAt clX5 q2263 q2265 qs38 dX5_tearBehind_65 (Or.inl T.1) rfl rfl (by decide) (Nat.zero_le _) (Nat.zero_le _) (Nat.le_of_ble_eq_true rfl) (fun _ => ?_)
          refine x_iret rfl dX5_tearBehind_68 ?_
          rw [show sp_tearBehind g (nI k) (nI n) z = (0, tearAt g k (nI n)) from by simp_all [sp_tearBehind, ← pk_mul, ← nI_add, nIl, ixl, nle_i, nlt_i]]
          exact ⟨rfl, by simp only [twQ, upd_uu]⟩
        · skip
          refine x_aload_n dX5_tearBehind_53 rfl rfl ?_
          refine x_iload_n dX5_tearBehind_54 rfl rfl ?_
          refine x_iload_n dX5_tearBehind_55 rfl rfl ?_
          refine x_cVI (t_dayByDay T O (by omega) (by omega)) okX5_dayByDay clX5 q2290 q2292 qs41 dX5_tearBehind_56 (Or.inl T.1) rfl rfl (by decide) (Nat.zero_le _) (Nat.zero_le _) (Nat.le_of_ble_eq_true rfl) (fun _ => ?_)
          refine x_goto 68 dX5_tearBehind_59 (by decide) ?_
          refine x_iret rfl dX5_tearBehind_68 ?_
          rw [show sp_tearBehind g (nI k) (nI n) z = (0, dayByDay g k n) from by simp_all [sp_tearBehind, ← pk_mul, ← nI_add, nIl, ixl, nle_i, nlt_i]]
          exact ⟨rfl, by simp only [twQ, upd_uu]⟩
      · skip
        refine x_iconst (nI 3) dX5_tearBehind_36 (by decide) ?_
        refine x_goto 41 dX5_tearBehind_37 (by decide) ?_
        refine x_cVI (t_fails3 T) okX5_fails clX5 q2159 q2161 qs23 dX5_tearBehind_41 (Or.inl T.1) rfl rfl (by decide) (Nat.zero_le _) (Nat.zero_le _) (Nat.le_of_ble_eq_true rfl) (fun _ => ?_)
        refine x_if_eq 49 dX5_tearBehind_44 (by decide) (fun z => False.elim (by revert z; decide)) (fun _ => ?_)
        refine x_iconst (nI 0) dX5_tearBehind_47 (by decide) ?_
        refine x_iret rfl dX5_tearBehind_48 ?_
        rw [show sp_tearBehind g (nI k) (nI n) z = (3, nI 0) from by simp_all [sp_tearBehind, ← pk_mul, ← nI_add, nIl, ixl, nle_i, nlt_i]]
        exact ⟨rfl, by simp only [twQ, upd_uu]⟩
    · skip
      refine x_iconst (nI 2) dX5_tearBehind_23 (by decide) ?_
      refine x_goto 41 dX5_tearBehind_24 (by decide) ?_
      refine x_cVI (t_fails2 T) okX5_fails clX5 q2159 q2161 qs23 dX5_tearBehind_41 (Or.inl T.1) rfl rfl (by decide) (Nat.zero_le _) (Nat.zero_le _) (Nat.le_of_ble_eq_true rfl) (fun _ => ?_)
      refine x_if_eq 49 dX5_tearBehind_44 (by decide) (fun z => False.elim (by revert z; decide)) (fun _ => ?_)
      refine x_iconst (nI 0) dX5_tearBehind_47 (by decide) ?_
      refine x_iret rfl dX5_tearBehind_48 ?_
      rw [show sp_tearBehind g (nI k) y z = (2, nI 0) from by simp_all [sp_tearBehind, ← pk_mul, ← nI_add, nIl, ixl, nle_i, nlt_i]]
      exact ⟨rfl, by simp only [twQ, upd_uu]⟩
  · skip
    refine x_iconst (nI 1) dX5_tearBehind_9 (by decide) ?_
    refine x_goto 41 dX5_tearBehind_10 (by decide) ?_
    refine x_cVI (t_fails1 T) okX5_fails clX5 q2159 q2161 qs23 dX5_tearBehind_41 (Or.inl T.1) rfl rfl (by decide) (Nat.zero_le _) (Nat.zero_le _) (Nat.le_of_ble_eq_true rfl) (fun _ => ?_)
    refine x_if_eq 49 dX5_tearBehind_44 (by decide) (fun z => False.elim (by revert z; decide)) (fun _ => ?_)
    refine x_iconst (nI 0) dX5_tearBehind_47 (by decide) ?_
    refine x_iret rfl dX5_tearBehind_48 ?_
    rw [show sp_tearBehind g x y z = (1, nI 0) from by simp_all [sp_tearBehind, ← pk_mul, ← nI_add, nIl, ixl, nle_i, nlt_i]]
    exact ⟨rfl, by simp only [twQ, upd_uu]⟩
theorem t_isStronger {G : GG} {h : AH} {a : Nat} {g : Nat → Int32} {S : Nat → Nat → Int32} {V : Nat → Int32} (T : Tw h a) {j k : Nat} (O : GOk g) (hj : j < nJr g) (hk : k < nJr g) : Cal G kX5_isStronger 4 0 0 [.ref a, .int (nI j), .int (nI k)] (twh h a g S V) (rI (bB (isStronger g j k)) (twh h a g S V)) := by
  refine Cal.of (by decide +kernel) (Nat.le_of_ble_eq_true rfl) (fun c => ?_)
  have hj0 := O.j
  refine x_aload_n dX5_isStronger_0 rfl rfl ?_
  refine x_iload_n dX5_isStronger_1 rfl rfl ?_
  refine x_cVI (t_tearOf T O (by omega) (by omega)) okX5_tearOf clX5 q2259 q2261 qs37 dX5_isStronger_2 (Or.inl T.1) rfl rfl (by decide) (Nat.zero_le _) (Nat.zero_le _) (Nat.le_of_ble_eq_true rfl) (fun _ => ?_)
  refine x_aload_n dX5_isStronger_5 rfl rfl ?_
  refine x_iload_n dX5_isStronger_6 rfl rfl ?_
  refine x_cVI (t_tearOf T O (by omega) (by omega)) okX5_tearOf clX5 q2259 q2261 qs37 dX5_isStronger_7 (Or.inl T.1) rfl rfl (by decide) (Nat.zero_le _) (Nat.zero_le _) (Nat.le_of_ble_eq_true rfl) (fun _ => ?_)
  refine x_icmp_eq 32 dX5_isStronger_10 (by decide) (fun e1 => ?_) (fun e1 => ?_)
  · skip
    refine x_aload_n dX5_isStronger_32 rfl rfl ?_
    refine x_iload_n dX5_isStronger_33 rfl rfl ?_
    refine x_iconst (nI 2) dX5_isStronger_34 (by decide) ?_
    refine x_cVI (t_ofJar T (by omega)) okX5_ofJar clX5 q2251 q2253 qs35 dX5_isStronger_35 (Or.inl T.1) rfl rfl (by decide) (Nat.zero_le _) (Nat.zero_le _) (Nat.le_of_ble_eq_true rfl) (fun _ => ?_)
    refine x_aload_n dX5_isStronger_38 rfl rfl ?_
    refine x_iload_n dX5_isStronger_39 rfl rfl ?_
    refine x_iconst (nI 2) dX5_isStronger_40 (by decide) ?_
    refine x_cVI (t_ofJar T (by omega)) okX5_ofJar clX5 q2251 q2253 qs35 dX5_isStronger_41 (Or.inl T.1) rfl rfl (by decide) (Nat.zero_le _) (Nat.zero_le _) (Nat.le_of_ble_eq_true rfl) (fun _ => ?_)
    refine x_icmp_eq 70 dX5_isStronger_44 (by decide) (fun e2 => ?_) (fun e2 => ?_)
    · skip
      refine x_iload_n dX5_isStronger_70 rfl rfl ?_
      refine x_iload_n dX5_isStronger_71 rfl rfl ?_
      refine x_icmp_ge 79 dX5_isStronger_72 (by decide) (fun e3 => ?_) (fun e3 => ?_)
      · skip
        have ne3 := e3
        rw [nI_leI (by omega) (by omega)] at ne3
        refine x_iconst (nI 0) dX5_isStronger_79 (by decide) ?_
        refine x_zret rfl (by decide +kernel) dX5_isStronger_80 ?_
        exact rI_of (by simp_all [isStronger, bB, nIl, nle_i, nlt_i])
      · skip
        have ne3 := e3
        rw [nI_leI (by omega) (by omega)] at ne3
        refine x_iconst (nI 1) dX5_isStronger_75 (by decide) ?_
        refine x_goto 80 dX5_isStronger_76 (by decide) ?_
        refine x_zret rfl (by decide +kernel) dX5_isStronger_80 ?_
        exact rI_of (by simp_all [isStronger, bB, nIl, nle_i, nlt_i])
    · skip
      refine x_aload_n dX5_isStronger_47 rfl rfl ?_
      refine x_iload_n dX5_isStronger_48 rfl rfl ?_
      refine x_iconst (nI 2) dX5_isStronger_49 (by decide) ?_
      refine x_cVI (t_ofJar T (by omega)) okX5_ofJar clX5 q2251 q2253 qs35 dX5_isStronger_50 (Or.inl T.1) rfl rfl (by decide) (Nat.zero_le _) (Nat.zero_le _) (Nat.le_of_ble_eq_true rfl) (fun _ => ?_)
      refine x_aload_n dX5_isStronger_53 rfl rfl ?_
      refine x_iload_n dX5_isStronger_54 rfl rfl ?_
      refine x_iconst (nI 2) dX5_isStronger_55 (by decide) ?_
      refine x_cVI (t_ofJar T (by omega)) okX5_ofJar clX5 q2251 q2253 qs35 dX5_isStronger_56 (Or.inl T.1) rfl rfl (by decide) (Nat.zero_le _) (Nat.zero_le _) (Nat.le_of_ble_eq_true rfl) (fun _ => ?_)
      refine x_icmp_le 66 dX5_isStronger_59 (by decide) (fun e4 => ?_) (fun e4 => ?_)
      · skip
        refine x_iconst (nI 0) dX5_isStronger_66 (by decide) ?_
        refine x_goto 80 dX5_isStronger_67 (by decide) ?_
        refine x_zret rfl (by decide +kernel) dX5_isStronger_80 ?_
        exact rI_of (by simp_all [isStronger, bB, nIl, nle_i, nlt_i])
      · skip
        refine x_iconst (nI 1) dX5_isStronger_62 (by decide) ?_
        refine x_goto 80 dX5_isStronger_63 (by decide) ?_
        refine x_zret rfl (by decide +kernel) dX5_isStronger_80 ?_
        exact rI_of (by simp_all [isStronger, bB, nIl, nle_i, nlt_i])
  · skip
    refine x_aload_n dX5_isStronger_13 rfl rfl ?_
    refine x_iload_n dX5_isStronger_14 rfl rfl ?_
    refine x_cVI (t_tearOf T O (by omega) (by omega)) okX5_tearOf clX5 q2259 q2261 qs37 dX5_isStronger_15 (Or.inl T.1) rfl rfl (by decide) (Nat.zero_le _) (Nat.zero_le _) (Nat.le_of_ble_eq_true rfl) (fun _ => ?_)
    refine x_aload_n dX5_isStronger_18 rfl rfl ?_
    refine x_iload_n dX5_isStronger_19 rfl rfl ?_
    refine x_cVI (t_tearOf T O (by omega) (by omega)) okX5_tearOf clX5 q2259 q2261 qs37 dX5_isStronger_20 (Or.inl T.1) rfl rfl (by decide) (Nat.zero_le _) (Nat.zero_le _) (Nat.le_of_ble_eq_true rfl) (fun _ => ?_)
    refine x_icmp_le 30 dX5_isStronger_23 (by decide) (fun e5 => ?_) (fun e5 => ?_)
    · skip
      refine x_iconst (nI 0) dX5_isStronger_30 (by decide) ?_
      refine x_zret rfl (by decide +kernel) dX5_isStronger_31 ?_
      exact rI_of (by simp_all [isStronger, bB, nIl, nle_i, nlt_i])
    · skip
      refine x_iconst (nI 1) dX5_isStronger_26 (by decide) ?_
      refine x_goto 31 dX5_isStronger_27 (by decide) ?_
      refine x_zret rfl (by decide +kernel) dX5_isStronger_31 ?_
      exact rI_of (by simp_all [isStronger, bB, nIl, nle_i, nlt_i])
def sp_strongest (g : Nat → Int32) (x : Int32) : Nat × Int32 := match strongestG g x with
  | some j => (0, nI j)
  | none => (1, 0)
theorem t_strongest {G : GG} {h : AH} {a : Nat} {g : Nat → Int32} {S : Nat → Nat → Int32} {V : Nat → Int32} (T : Tw h a) (O : GOk g) {x : Int32} : Cal G kX5_strongest 5 0 0 [.ref a, .int x] (twh h a g S V) (rI (sp_strongest g x).2 (twQ h a g S V (sp_strongest g x))) := by
  refine Cal.of (by decide +kernel) (Nat.le_of_ble_eq_true rfl) (fun c => ?_)
  have hb0 := O.b
  have hj0 := O.j
  have ho0 := O.o
  refine x_iconst (nI 0) dX5_strongest_0 (by decide) ?_
  refine x_istore_n [(2, .int (nI 0)), (0, .ref a), (1, .int x)] dX5_strongest_1 rfl (by decide) rfl ?_
  refine x_sub [1, 2, 0] (lv' := [(0, .ref a), (1, .int x), (2, .int (nI 0))]) rfl ?_
  refine x_bud (bc' := 0) (bs' := 0) (by first | exact Nat.zero_le _ | omega) (by first | exact Nat.zero_le _ | omega) ?_
  refine lpN (P := fun i => lf (stP g x) i = none → X G c kX5_strongest 5 _ _ _ 0 0 (twh h a g S V) 2 [(0, .ref a), (1, .int x), (2, .int (nI i))] []) (nJr g) (fun i hi ih hl => ?_) 0 (Nat.zero_le _) rfl
  refine x_iload_n dX5_strongest_2 rfl rfl ?_
  refine x_aload_n dX5_strongest_3 rfl rfl ?_
  refine tg_g T (.inl q2082) dX5_strongest_4 ?_
  refine x_bipush (nI 8) dX5_strongest_7 (by decide) ?_
  refine tld1 T rfl (by omega) dX5_strongest_9 ?_
  refine x_val hj0.1 ?_
  refine x_icmp_ge 99 dX5_strongest_10 (by decide) (fun e1 => ?_) (fun e1 => ?_)
  · skip
    have ne1 := e1
    rw [nI_leI (by omega) (by omega)] at ne1
    refine x_aload_n dX5_strongest_99 rfl rfl ?_
    refine x_iconst (nI 1) dX5_strongest_100 (by decide) ?_
    refine tp_code T (.inl q2090) dX5_strongest_101 ?_
    refine x_iconst (nI 0) dX5_strongest_104 (by decide) ?_
    refine x_iret rfl dX5_strongest_105 ?_
    obtain rfl : i = nJr g := by omega
    rw [show sp_strongest g x = (1, nI 0) from by unfold sp_strongest; rw [show strongestG g x = none from hl]; rfl]
    exact ⟨rfl, by simp only [twQ, upd_uu]⟩
  · skip
    have ne1 := e1
    rw [nI_leI (by omega) (by omega)] at ne1
    refine x_aload_n dX5_strongest_13 rfl rfl ?_
    refine x_iload_n dX5_strongest_14 rfl rfl ?_
    refine x_iconst (nI 0) dX5_strongest_15 (by decide) ?_
    refine x_cVI (t_ofJar T (by omega)) okX5_ofJar clX5 q2251 q2253 qs35 dX5_strongest_16 (Or.inl T.1) rfl rfl (by decide) (Nat.zero_le _) (Nat.zero_le _) (Nat.le_of_ble_eq_true rfl) (fun _ => ?_)
    refine x_iconst (nI 2) dX5_strongest_19 (by decide) ?_
    refine x_icmp_ne 26 dX5_strongest_20 (by decide) (fun e2 => ?_) (fun e2 => ?_)
    · skip
      refine x_iconst (nI 0) dX5_strongest_26 (by decide) ?_
      refine x_istore_n [(3, .int (nI 0)), (0, .ref a), (1, .int x), (2, .int (nI i))] dX5_strongest_27 rfl (by decide) rfl ?_
      refine x_iconst (nI 0) dX5_strongest_28 (by decide) ?_
      refine x_istore [(4, .int (nI 0)), (3, .int (nI 0)), (0, .ref a), (1, .int x), (2, .int (nI i))] dX5_strongest_29 (by decide) rfl ?_
      refine x_sub [2, 3, 4, 1, 0] (lv' := [(0, .ref a), (1, .int x), (2, .int (nI i)), (3, .int (nI 0)), (4, .int (nI 0))]) rfl ?_
      refine x_bud (bc' := 0) (bs' := 0) (by first | exact Nat.zero_le _ | omega) (by first | exact Nat.zero_le _ | omega) ?_
      refine lpN (P := fun r => X G c kX5_strongest 5 _ _ _ 0 0 (twh h a g S V) 31 [(0, .ref a), (1, .int x), (2, .int (nI i)), (3, .int (nI (cnt (fun o => decide (¬ gj g o 0 = 2) && isStronger g o i) r))), (4, .int (nI r))] []) (nJr g) (fun r hr ihr => ?_) 0 (Nat.zero_le _)
      refine x_iload dX5_strongest_31 rfl ?_
      refine x_aload_n dX5_strongest_33 rfl rfl ?_
      refine tg_g T (.inl q2082) dX5_strongest_34 ?_
      refine x_bipush (nI 8) dX5_strongest_37 (by decide) ?_
      refine tld1 T rfl (by omega) dX5_strongest_39 ?_
      refine x_val hj0.1 ?_
      refine x_icmp_ge 78 dX5_strongest_40 (by decide) (fun e3 => ?_) (fun e3 => ?_)
      · skip
        have ne3 := e3
        rw [nI_leI (by omega) (by omega)] at ne3
        obtain rfl : r = nJr g := by omega
        refine x_iload_n dX5_strongest_78 rfl rfl ?_
        refine x_iload_n dX5_strongest_79 rfl rfl ?_
        refine x_icmp_eq 86 dX5_strongest_80 (by decide) (fun e4 => ?_) (fun e4 => ?_)
        · skip
          refine x_aload_n dX5_strongest_86 rfl rfl ?_
          refine x_iconst (nI 0) dX5_strongest_87 (by decide) ?_
          refine tp_code T (.inl q2090) dX5_strongest_88 ?_
          refine x_iload_n dX5_strongest_91 rfl rfl ?_
          refine x_iret rfl dX5_strongest_92 ?_
          have ep : stP g x i = true := by simp_all [stP, nIl]
          have ef : strongestG g x = some i := lf_found hl ep (by omega)
          rw [show sp_strongest g x = (0, nI i) from by unfold sp_strongest; rw [ef]]
          exact ⟨rfl, by simp only [twQ, upd_uu]⟩
        · skip
          refine x_goto 93 dX5_strongest_83 (by decide) ?_
          refine x_iinc (j := 2) (nI (i + 1)) [(2, .int (nI (i + 1))), (0, .ref a), (1, .int x), (3, .int (nI (cnt (fun o => decide (¬ gj g o 0 = 2) && isStronger g o i) (nJr g)))), (4, .int (nI (nJr g)))] dX5_strongest_93 rfl (by first | exact nI_add _ _ | decide) (by decide) rfl ?_
          refine x_goto 2 dX5_strongest_96 (by decide) ?_
          refine x_sub [1, 2, 0] (lv' := [(0, .ref a), (1, .int x), (2, .int (nI (i + 1)))]) rfl ?_
          have ep : stP g x i = false := by simp_all [stP, nIl]
          exact ih (by omega) (lf_step hl ep)
      · skip
        have ne3 := e3
        rw [nI_leI (by omega) (by omega)] at ne3
        refine x_iload_n dX5_strongest_43 rfl rfl ?_
        refine x_aload_n dX5_strongest_44 rfl rfl ?_
        refine x_iload dX5_strongest_45 rfl ?_
        refine x_iconst (nI 0) dX5_strongest_47 (by decide) ?_
        refine x_cVI (t_ofJar T (by omega)) okX5_ofJar clX5 q2251 q2253 qs35 dX5_strongest_48 (Or.inl T.1) rfl rfl (by decide) (Nat.zero_le _) (Nat.zero_le _) (Nat.le_of_ble_eq_true rfl) (fun _ => ?_)
        refine x_iconst (nI 2) dX5_strongest_51 (by decide) ?_
        refine x_icmp_eq 69 dX5_strongest_52 (by decide) (fun e5 => ?_) (fun e5 => ?_)
        · skip
          refine x_iconst (nI 0) dX5_strongest_69 (by decide) ?_
          refine x_iadd dX5_strongest_70 ?_
          refine x_val (nI_add _ _) ?_
          refine x_istore_n [(3, .int (nI ((cnt (fun o => decide (¬ gj g o 0 = 2) && isStronger g o i) r) + 0))), (0, .ref a), (1, .int x), (2, .int (nI i)), (4, .int (nI r))] dX5_strongest_71 rfl (by decide) rfl ?_
          refine x_iinc (j := 4) (nI (r + 1)) [(4, .int (nI (r + 1))), (3, .int (nI ((cnt (fun o => decide (¬ gj g o 0 = 2) && isStronger g o i) r) + 0))), (0, .ref a), (1, .int x), (2, .int (nI i))] dX5_strongest_72 rfl (by first | exact nI_add _ _ | decide) (by decide) rfl ?_
          refine x_goto 31 dX5_strongest_75 (by decide) ?_
          refine x_sub [2, 3, 4, 1, 0] (lv' := [(0, .ref a), (1, .int x), (2, .int (nI i)), (3, .int (nI ((cnt (fun o => decide (¬ gj g o 0 = 2) && isStronger g o i) r) + 0))), (4, .int (nI (r + 1)))]) rfl ?_
          have ec : cnt (fun o => decide (¬ gj g o 0 = 2) && isStronger g o i) (r + 1) = (cnt (fun o => decide (¬ gj g o 0 = 2) && isStronger g o i) r) + 0 := by simp_all [cnt, nIl]
          rw [← ec]
          exact ihr (by omega)
        · skip
          refine x_aload_n dX5_strongest_55 rfl rfl ?_
          refine x_iload dX5_strongest_56 rfl ?_
          refine x_iload_n dX5_strongest_58 rfl rfl ?_
          refine x_cVI (t_isStronger T O (by omega) (by omega)) okX5_isStronger clX5 q2298 q2300 qs42 dX5_strongest_59 (Or.inl T.1) rfl rfl (by decide) (Nat.zero_le _) (Nat.zero_le _) (Nat.le_of_ble_eq_true rfl) (fun _ => ?_)
          refine x_if_eqB 69 dX5_strongest_62 (by decide) (fun e6 => ?_) (fun e6 => ?_)
          · skip
            refine x_iconst (nI 0) dX5_strongest_69 (by decide) ?_
            refine x_iadd dX5_strongest_70 ?_
            refine x_val (nI_add _ _) ?_
            refine x_istore_n [(3, .int (nI ((cnt (fun o => decide (¬ gj g o 0 = 2) && isStronger g o i) r) + 0))), (0, .ref a), (1, .int x), (2, .int (nI i)), (4, .int (nI r))] dX5_strongest_71 rfl (by decide) rfl ?_
            refine x_iinc (j := 4) (nI (r + 1)) [(4, .int (nI (r + 1))), (3, .int (nI ((cnt (fun o => decide (¬ gj g o 0 = 2) && isStronger g o i) r) + 0))), (0, .ref a), (1, .int x), (2, .int (nI i))] dX5_strongest_72 rfl (by first | exact nI_add _ _ | decide) (by decide) rfl ?_
            refine x_goto 31 dX5_strongest_75 (by decide) ?_
            refine x_sub [2, 3, 4, 1, 0] (lv' := [(0, .ref a), (1, .int x), (2, .int (nI i)), (3, .int (nI ((cnt (fun o => decide (¬ gj g o 0 = 2) && isStronger g o i) r) + 0))), (4, .int (nI (r + 1)))]) rfl ?_
            have ec : cnt (fun o => decide (¬ gj g o 0 = 2) && isStronger g o i) (r + 1) = (cnt (fun o => decide (¬ gj g o 0 = 2) && isStronger g o i) r) + 0 := by simp_all [cnt, nIl]
            rw [← ec]
            exact ihr (by omega)
          · skip
            refine x_iconst (nI 1) dX5_strongest_65 (by decide) ?_
            refine x_goto 70 dX5_strongest_66 (by decide) ?_
            refine x_iadd dX5_strongest_70 ?_
            refine x_val (nI_add _ _) ?_
            refine x_istore_n [(3, .int (nI ((cnt (fun o => decide (¬ gj g o 0 = 2) && isStronger g o i) r) + 1))), (0, .ref a), (1, .int x), (2, .int (nI i)), (4, .int (nI r))] dX5_strongest_71 rfl (by decide) rfl ?_
            refine x_iinc (j := 4) (nI (r + 1)) [(4, .int (nI (r + 1))), (3, .int (nI ((cnt (fun o => decide (¬ gj g o 0 = 2) && isStronger g o i) r) + 1))), (0, .ref a), (1, .int x), (2, .int (nI i))] dX5_strongest_72 rfl (by first | exact nI_add _ _ | decide) (by decide) rfl ?_
            refine x_goto 31 dX5_strongest_75 (by decide) ?_
            refine x_sub [2, 3, 4, 1, 0] (lv' := [(0, .ref a), (1, .int x), (2, .int (nI i)), (3, .int (nI ((cnt (fun o => decide (¬ gj g o 0 = 2) && isStronger g o i) r) + 1))), (4, .int (nI (r + 1)))]) rfl ?_
            have ec : cnt (fun o => decide (¬ gj g o 0 = 2) && isStronger g o i) (r + 1) = (cnt (fun o => decide (¬ gj g o 0 = 2) && isStronger g o i) r) + 1 := by simp_all [cnt, nIl]
            rw [← ec]
            exact ihr (by omega)
    · skip
      refine x_goto 93 dX5_strongest_23 (by decide) ?_
      refine x_iinc (j := 2) (nI (i + 1)) [(2, .int (nI (i + 1))), (0, .ref a), (1, .int x)] dX5_strongest_93 rfl (by first | exact nI_add _ _ | decide) (by decide) rfl ?_
      refine x_goto 2 dX5_strongest_96 (by decide) ?_
      refine x_sub [1, 2, 0] (lv' := [(0, .ref a), (1, .int x), (2, .int (nI (i + 1)))]) rfl ?_
      have ep : stP g x i = false := by simp_all [stP, nIl]
      exact ih (by omega) (lf_step hl ep)
theorem t_buy {G : GG} {h : AH} {a : Nat} {g : Nat → Int32} {S : Nat → Nat → Int32} {V : Nat → Int32} (T : Tw h a) (O : GOk g) (VO : VOk V) {x : Int32} {y : Int32} : Cal G kX5_buy 2 0 0 [.ref a, .int x, .int y] (twh h a g S V) (rI (sp_buy g x y).2.1 (twR h a g S V (nI 0) (nI 1) (nI 2) (sp_buy g x y))) := by
  refine Cal.of (by decide +kernel) (Nat.le_of_ble_eq_true rfl) (fun c => ?_)
  have hb0 := O.b
  have hj0 := O.j
  have ho0 := O.o
  refine x_aload_n dX5_buy_0 rfl rfl ?_
  refine x_iload_n dX5_buy_1 rfl rfl ?_
  refine x_iconst (nI 0) dX5_buy_2 (by decide) ?_
  refine x_iconst (nI 4) dX5_buy_3 (by decide) ?_
  refine x_cSI t_in okX5_in q2156 q2157 dX5_buy_4 rfl rfl (by decide) (Nat.zero_le _) (Nat.zero_le _) (Nat.le_of_ble_eq_true rfl) (fun _ => ?_)
  refine x_if_eqB 24 dX5_buy_7 (by decide) (fun e1 => ?_) (fun e1 => ?_)
  · skip
    refine x_iconst (nI 1) dX5_buy_24 (by decide) ?_
    refine x_cVI (t_fails1 T) okX5_fails clX5 q2159 q2161 qs23 dX5_buy_25 (Or.inl T.1) rfl rfl (by decide) (Nat.zero_le _) (Nat.zero_le _) (Nat.le_of_ble_eq_true rfl) (fun _ => ?_)
    refine x_if_eq 33 dX5_buy_28 (by decide) (fun z => False.elim (by revert z; decide)) (fun _ => ?_)
    refine x_iconst (nI 0) dX5_buy_31 (by decide) ?_
    refine x_iret rfl dX5_buy_32 ?_
    rw [show sp_buy g x y = iaeR g from by simp_all [sp_buy, ← pk_mul, ← nI_add, nIl, ixl, nle_i, nlt_i]]
    exact ⟨rfl, by simp only [twR, upd_uu]; try rfl⟩
  · skip
    obtain ⟨k, hk, rfl⟩ := inB_n (n := 4) (by decide) e1
    have xk : (nI k).toNatClampNeg = k := ix_nI (by omega)
    refine x_iload_n dX5_buy_10 rfl rfl ?_
    refine x_iconst (nI 1) dX5_buy_11 (by decide) ?_
    refine x_bipush (nI 20) dX5_buy_12 (by decide) ?_
    refine x_cSI t_in okX5_in q2156 q2157 dX5_buy_14 rfl rfl (by decide) (Nat.zero_le _) (Nat.zero_le _) (Nat.le_of_ble_eq_true rfl) (fun _ => ?_)
    refine x_if_eqB 24 dX5_buy_17 (by decide) (fun e2 => ?_) (fun e2 => ?_)
    · skip
      refine x_iconst (nI 1) dX5_buy_24 (by decide) ?_
      refine x_cVI (t_fails1 T) okX5_fails clX5 q2159 q2161 qs23 dX5_buy_25 (Or.inl T.1) rfl rfl (by decide) (Nat.zero_le _) (Nat.zero_le _) (Nat.le_of_ble_eq_true rfl) (fun _ => ?_)
      refine x_if_eq 33 dX5_buy_28 (by decide) (fun z => False.elim (by revert z; decide)) (fun _ => ?_)
      refine x_iconst (nI 0) dX5_buy_31 (by decide) ?_
      refine x_iret rfl dX5_buy_32 ?_
      rw [show sp_buy g (nI k) y = iaeR g from by simp_all [sp_buy, ← pk_mul, ← nI_add, nIl, ixl, nle_i, nlt_i]]
      exact ⟨rfl, by simp only [twR, upd_uu]; try rfl⟩
    · skip
      obtain ⟨m, lm, hm, rfl⟩ := inB_1 (n := 20) (by decide) e2
      have xm : (nI m).toNatClampNeg = m := ix_nI (by omega)
      refine x_iconst (nI 0) dX5_buy_20 (by decide) ?_
      refine x_goto 25 dX5_buy_21 (by decide) ?_
      refine x_cVI (t_fails0 T) okX5_fails clX5 q2159 q2161 qs23 dX5_buy_25 (Or.inl T.1) rfl rfl (by decide) (Nat.zero_le _) (Nat.zero_le _) (Nat.le_of_ble_eq_true rfl) (fun _ => ?_)
      refine x_if_eq 33 dX5_buy_28 (by decide) (fun _ => ?_) (fun z => False.elim (by revert z; decide))
      refine x_iload_n dX5_buy_33 rfl rfl ?_
      refine x_iconst (nI 3) dX5_buy_34 (by decide) ?_
      refine x_icmp_ge 43 dX5_buy_35 (by decide) (fun e3 => ?_) (fun e3 => ?_)
      · skip
        have ne3 := e3
        rw [nI_leI (by omega) (by omega)] at ne3
        refine x_iload_n dX5_buy_43 rfl rfl ?_
        refine x_iconst (nI 3) dX5_buy_44 (by decide) ?_
        refine x_icmp_ne 52 dX5_buy_45 (by decide) (fun e4 => ?_) (fun e4 => ?_)
        · skip
          have ne4 := e4
          rw [nI_eq (by omega) (by omega)] at ne4
          refine x_iconst (nI 1) dX5_buy_52 (by decide) ?_
          refine x_istore_n [(3, .int (nI 1)), (0, .ref a), (1, .int (nI k)), (2, .int (nI m))] dX5_buy_53 rfl (by decide) rfl ?_
          refine x_iload_n dX5_buy_54 rfl rfl ?_
          refine x_iconst (nI 3) dX5_buy_55 (by decide) ?_
          refine x_icmp_ge 65 dX5_buy_56 (by decide) (fun e5 => ?_) (fun e5 => ?_)
          · skip
            have ne5 := e5
            rw [nI_leI (by omega) (by omega)] at ne5
            refine x_bipush (nI 99) dX5_buy_65 (by decide) ?_
            refine x_istore [(4, .int (nI 99)), (3, .int (nI 1)), (0, .ref a), (1, .int (nI k)), (2, .int (nI m))] dX5_buy_67 (by decide) rfl ?_
            refine x_aload_n dX5_buy_69 rfl rfl ?_
            refine tg_g T (.inl q2082) dX5_buy_70 ?_
            refine x_iconst (nI 1) dX5_buy_73 (by decide) ?_
            refine x_iload_n dX5_buy_74 rfl rfl ?_
            refine x_iadd dX5_buy_75 ?_
            refine x_val (nI_add _ _) ?_
            refine tld1 T rfl (by omega) dX5_buy_76 ?_
            refine x_iload_n dX5_buy_77 rfl rfl ?_
            refine x_iload_n dX5_buy_78 rfl rfl ?_
            refine x_imul dX5_buy_79 ?_
            refine x_val (pk_mul _ _) ?_
            refine x_iadd dX5_buy_80 ?_
            refine x_istore [(5, .int ((g (1 + k)) + (nI (1 * m)))), (4, .int (nI 99)), (3, .int (nI 1)), (0, .ref a), (1, .int (nI k)), (2, .int (nI m))] dX5_buy_81 (by decide) rfl ?_
            refine x_iload_n dX5_buy_83 rfl rfl ?_
            refine x_iconst (nI 3) dX5_buy_84 (by decide) ?_
            refine x_icmp_ge 94 dX5_buy_85 (by decide) (fun e6 => ?_) (fun e6 => ?_)
            · skip
              have ne6 := e6
              rw [nI_leI (by omega) (by omega)] at ne6
              refine x_iconst (nI 1) dX5_buy_94 (by decide) ?_
              refine x_iload_n dX5_buy_95 rfl rfl ?_
              refine x_imul dX5_buy_96 ?_
              refine x_val (pk_mul _ _) ?_
              refine x_istore [(6, .int (nI (1 * m))), (5, .int ((g (1 + k)) + (nI (1 * m)))), (4, .int (nI 99)), (3, .int (nI 1)), (0, .ref a), (1, .int (nI k)), (2, .int (nI m))] dX5_buy_97 (by decide) rfl ?_
              refine x_iload dX5_buy_99 rfl ?_
              refine x_iload dX5_buy_101 rfl ?_
              refine x_icmp_le 115 dX5_buy_103 (by decide) (fun e7 => ?_) (fun e7 => ?_)
              · skip
                refine x_iload dX5_buy_115 rfl ?_
                refine x_aload_n dX5_buy_117 rfl rfl ?_
                refine tg_g T (.inl q2082) dX5_buy_118 ?_
                refine x_bipush (nI 6) dX5_buy_121 (by decide) ?_
                refine tld1 T rfl (by omega) dX5_buy_123 ?_
                refine x_icmp_le 144 dX5_buy_124 (by decide) (fun e8 => ?_) (fun e8 => ?_)
                · skip
                  refine x_aload_n dX5_buy_144 rfl rfl ?_
                  refine x_aload_n dX5_buy_145 rfl rfl ?_
                  refine tg_g T (.inl q2082) dX5_buy_146 ?_
                  refine x_cVV (t_keepsF T VO) okX5_keeps clX5 q2167 q2169 qs25 dX5_buy_149 (Or.inl T.1) rfl rfl (by decide) (Nat.zero_le _) (Nat.zero_le _) (Nat.le_of_ble_eq_true rfl) (fun _ => ?_)
                  refine x_aload_n dX5_buy_152 rfl rfl ?_
                  refine tg_g T (.inl q2082) dX5_buy_153 ?_
                  refine x_bipush (nI 6) dX5_buy_156 (by decide) ?_
                  refine x_dup2 dX5_buy_158 rfl rfl ?_
                  refine tld1 T rfl (by omega) dX5_buy_159 ?_
                  refine x_iload dX5_buy_160 rfl ?_
                  refine x_isub dX5_buy_162 ?_
                  refine tst1 T rfl (by omega) dX5_buy_163 ?_
                  refine x_aload_n dX5_buy_164 rfl rfl ?_
                  refine tg_g T (.inl q2082) dX5_buy_165 ?_
                  refine x_iconst (nI 1) dX5_buy_168 (by decide) ?_
                  refine x_iload_n dX5_buy_169 rfl rfl ?_
                  refine x_iadd dX5_buy_170 ?_
                  refine x_val (nI_add _ _) ?_
                  refine x_iload dX5_buy_171 rfl ?_
                  refine tst1 T rfl (by omega) dX5_buy_173 ?_
                  refine x_iload dX5_buy_174 rfl ?_
                  refine x_iret rfl dX5_buy_176 ?_
                  rw [show sp_buy g (nI k) (nI m) = okR ((g (1 + k)) + (nI (1 * m))) (upd (upd g 6 ((g 6) - (nI (1 * m)))) (1 + k) ((g (1 + k)) + (nI (1 * m)))) from by simp_all [sp_buy, ← pk_mul, ← nI_add, nIl, ixl, nle_i, nlt_i]]
                  exact ⟨rfl, by simp only [twR, upd_uu]; try rfl⟩
                · skip
                  refine x_aload_n dX5_buy_127 rfl rfl ?_
                  refine x_iconst (nI 2) dX5_buy_128 (by decide) ?_
                  refine x_iconst (nI 5) dX5_buy_129 (by decide) ?_
                  refine x_iload dX5_buy_130 rfl ?_
                  refine x_aload_n dX5_buy_132 rfl rfl ?_
                  refine tg_g T (.inl q2082) dX5_buy_133 ?_
                  refine x_bipush (nI 6) dX5_buy_136 (by decide) ?_
                  refine tld1 T rfl (by omega) dX5_buy_138 ?_
                  refine x_isub dX5_buy_139 ?_
                  refine x_cVI (t_refuses T) okX5_refuses clX5 q2163 q2165 qs24 dX5_buy_140 (Or.inl T.1) rfl rfl (by decide) (Nat.zero_le _) (Nat.zero_le _) (Nat.le_of_ble_eq_true rfl) (fun _ => ?_)
                  refine x_iret rfl dX5_buy_143 ?_
                  rw [show sp_buy g (nI k) (nI m) = refR (nI 5) ((nI (1 * m)) - (g 6)) g from by simp_all [sp_buy, ← pk_mul, ← nI_add, nIl, ixl, nle_i, nlt_i]]
                  exact ⟨rfl, by simp only [twR, upd_uu]; try rfl⟩
              · skip
                refine x_aload_n dX5_buy_106 rfl rfl ?_
                refine x_iconst (nI 2) dX5_buy_107 (by decide) ?_
                refine x_iconst (nI 1) dX5_buy_108 (by decide) ?_
                refine x_iload dX5_buy_109 rfl ?_
                refine x_cVI (t_refuses T) okX5_refuses clX5 q2163 q2165 qs24 dX5_buy_111 (Or.inl T.1) rfl rfl (by decide) (Nat.zero_le _) (Nat.zero_le _) (Nat.le_of_ble_eq_true rfl) (fun _ => ?_)
                refine x_iret rfl dX5_buy_114 ?_
                rw [show sp_buy g (nI k) (nI m) = refR (nI 1) (nI 99) g from by simp_all [sp_buy, ← pk_mul, ← nI_add, nIl, ixl, nle_i, nlt_i]]
                exact ⟨rfl, by simp only [twR, upd_uu]; try rfl⟩
            · skip
              have ne6 := e6
              rw [nI_leI (by omega) (by omega)] at ne6
              refine x_iload_n dX5_buy_88 rfl rfl ?_
              refine x_iconst (nI 1) dX5_buy_89 (by decide) ?_
              refine x_iadd dX5_buy_90 ?_
              refine x_val (nI_add _ _) ?_
              refine x_goto 95 dX5_buy_91 (by decide) ?_
              refine x_iload_n dX5_buy_95 rfl rfl ?_
              refine x_imul dX5_buy_96 ?_
              refine x_val (pk_mul _ _) ?_
              refine x_istore [(6, .int (nI ((k + 1) * m))), (5, .int ((g (1 + k)) + (nI (1 * m)))), (4, .int (nI 99)), (3, .int (nI 1)), (0, .ref a), (1, .int (nI k)), (2, .int (nI m))] dX5_buy_97 (by decide) rfl ?_
              refine x_iload dX5_buy_99 rfl ?_
              refine x_iload dX5_buy_101 rfl ?_
              refine x_icmp_le 115 dX5_buy_103 (by decide) (fun e9 => ?_) (fun e9 => ?_)
              · skip
                refine x_iload dX5_buy_115 rfl ?_
                refine x_aload_n dX5_buy_117 rfl rfl ?_
                refine tg_g T (.inl q2082) dX5_buy_118 ?_
                refine x_bipush (nI 6) dX5_buy_121 (by decide) ?_
                refine tld1 T rfl (by omega) dX5_buy_123 ?_
                refine x_icmp_le 144 dX5_buy_124 (by decide) (fun e10 => ?_) (fun e10 => ?_)
                · skip
                  refine x_aload_n dX5_buy_144 rfl rfl ?_
                  refine x_aload_n dX5_buy_145 rfl rfl ?_
                  refine tg_g T (.inl q2082) dX5_buy_146 ?_
                  refine x_cVV (t_keepsF T VO) okX5_keeps clX5 q2167 q2169 qs25 dX5_buy_149 (Or.inl T.1) rfl rfl (by decide) (Nat.zero_le _) (Nat.zero_le _) (Nat.le_of_ble_eq_true rfl) (fun _ => ?_)
                  refine x_aload_n dX5_buy_152 rfl rfl ?_
                  refine tg_g T (.inl q2082) dX5_buy_153 ?_
                  refine x_bipush (nI 6) dX5_buy_156 (by decide) ?_
                  refine x_dup2 dX5_buy_158 rfl rfl ?_
                  refine tld1 T rfl (by omega) dX5_buy_159 ?_
                  refine x_iload dX5_buy_160 rfl ?_
                  refine x_isub dX5_buy_162 ?_
                  refine tst1 T rfl (by omega) dX5_buy_163 ?_
                  refine x_aload_n dX5_buy_164 rfl rfl ?_
                  refine tg_g T (.inl q2082) dX5_buy_165 ?_
                  refine x_iconst (nI 1) dX5_buy_168 (by decide) ?_
                  refine x_iload_n dX5_buy_169 rfl rfl ?_
                  refine x_iadd dX5_buy_170 ?_
                  refine x_val (nI_add _ _) ?_
                  refine x_iload dX5_buy_171 rfl ?_
                  refine tst1 T rfl (by omega) dX5_buy_173 ?_
                  refine x_iload dX5_buy_174 rfl ?_
                  refine x_iret rfl dX5_buy_176 ?_
                  rw [show sp_buy g (nI k) (nI m) = okR ((g (1 + k)) + (nI (1 * m))) (upd (upd g 6 ((g 6) - (nI ((k + 1) * m)))) (1 + k) ((g (1 + k)) + (nI (1 * m)))) from by simp_all [sp_buy, ← pk_mul, ← nI_add, nIl, ixl, nle_i, nlt_i]]
                  exact ⟨rfl, by simp only [twR, upd_uu]; try rfl⟩
                · skip
                  refine x_aload_n dX5_buy_127 rfl rfl ?_
                  refine x_iconst (nI 2) dX5_buy_128 (by decide) ?_
                  refine x_iconst (nI 5) dX5_buy_129 (by decide) ?_
                  refine x_iload dX5_buy_130 rfl ?_
                  refine x_aload_n dX5_buy_132 rfl rfl ?_
                  refine tg_g T (.inl q2082) dX5_buy_133 ?_
                  refine x_bipush (nI 6) dX5_buy_136 (by decide) ?_
                  refine tld1 T rfl (by omega) dX5_buy_138 ?_
                  refine x_isub dX5_buy_139 ?_
                  refine x_cVI (t_refuses T) okX5_refuses clX5 q2163 q2165 qs24 dX5_buy_140 (Or.inl T.1) rfl rfl (by decide) (Nat.zero_le _) (Nat.zero_le _) (Nat.le_of_ble_eq_true rfl) (fun _ => ?_)
                  refine x_iret rfl dX5_buy_143 ?_
                  rw [show sp_buy g (nI k) (nI m) = refR (nI 5) ((nI ((k + 1) * m)) - (g 6)) g from by simp_all [sp_buy, ← pk_mul, ← nI_add, nIl, ixl, nle_i, nlt_i]]
                  exact ⟨rfl, by simp only [twR, upd_uu]; try rfl⟩
              · skip
                refine x_aload_n dX5_buy_106 rfl rfl ?_
                refine x_iconst (nI 2) dX5_buy_107 (by decide) ?_
                refine x_iconst (nI 1) dX5_buy_108 (by decide) ?_
                refine x_iload dX5_buy_109 rfl ?_
                refine x_cVI (t_refuses T) okX5_refuses clX5 q2163 q2165 qs24 dX5_buy_111 (Or.inl T.1) rfl rfl (by decide) (Nat.zero_le _) (Nat.zero_le _) (Nat.le_of_ble_eq_true rfl) (fun _ => ?_)
                refine x_iret rfl dX5_buy_114 ?_
                rw [show sp_buy g (nI k) (nI m) = refR (nI 1) (nI 99) g from by simp_all [sp_buy, ← pk_mul, ← nI_add, nIl, ixl, nle_i, nlt_i]]
                exact ⟨rfl, by simp only [twR, upd_uu]; try rfl⟩
          · skip
            have ne5 := e5
            rw [nI_leI (by omega) (by omega)] at ne5
            refine x_sipush (nI 500) dX5_buy_59 (by decide) ?_
            refine x_goto 67 dX5_buy_62 (by decide) ?_
            refine x_istore [(4, .int (nI 500)), (3, .int (nI 1)), (0, .ref a), (1, .int (nI k)), (2, .int (nI m))] dX5_buy_67 (by decide) rfl ?_
            refine x_aload_n dX5_buy_69 rfl rfl ?_
            refine tg_g T (.inl q2082) dX5_buy_70 ?_
            refine x_iconst (nI 1) dX5_buy_73 (by decide) ?_
            refine x_iload_n dX5_buy_74 rfl rfl ?_
            refine x_iadd dX5_buy_75 ?_
            refine x_val (nI_add _ _) ?_
            refine tld1 T rfl (by omega) dX5_buy_76 ?_
            refine x_iload_n dX5_buy_77 rfl rfl ?_
            refine x_iload_n dX5_buy_78 rfl rfl ?_
            refine x_imul dX5_buy_79 ?_
            refine x_val (pk_mul _ _) ?_
            refine x_iadd dX5_buy_80 ?_
            refine x_istore [(5, .int ((g (1 + k)) + (nI (1 * m)))), (4, .int (nI 500)), (3, .int (nI 1)), (0, .ref a), (1, .int (nI k)), (2, .int (nI m))] dX5_buy_81 (by decide) rfl ?_
            refine x_iload_n dX5_buy_83 rfl rfl ?_
            refine x_iconst (nI 3) dX5_buy_84 (by decide) ?_
            refine x_icmp_ge 94 dX5_buy_85 (by decide) (fun e11 => ?_) (fun e11 => ?_)
            · skip
              have ne11 := e11
              rw [nI_leI (by omega) (by omega)] at ne11
              refine x_iconst (nI 1) dX5_buy_94 (by decide) ?_
              refine x_iload_n dX5_buy_95 rfl rfl ?_
              refine x_imul dX5_buy_96 ?_
              refine x_val (pk_mul _ _) ?_
              refine x_istore [(6, .int (nI (1 * m))), (5, .int ((g (1 + k)) + (nI (1 * m)))), (4, .int (nI 500)), (3, .int (nI 1)), (0, .ref a), (1, .int (nI k)), (2, .int (nI m))] dX5_buy_97 (by decide) rfl ?_
              refine x_iload dX5_buy_99 rfl ?_
              refine x_iload dX5_buy_101 rfl ?_
              refine x_icmp_le 115 dX5_buy_103 (by decide) (fun e12 => ?_) (fun e12 => ?_)
              · skip
                refine x_iload dX5_buy_115 rfl ?_
                refine x_aload_n dX5_buy_117 rfl rfl ?_
                refine tg_g T (.inl q2082) dX5_buy_118 ?_
                refine x_bipush (nI 6) dX5_buy_121 (by decide) ?_
                refine tld1 T rfl (by omega) dX5_buy_123 ?_
                refine x_icmp_le 144 dX5_buy_124 (by decide) (fun e13 => ?_) (fun e13 => ?_)
                · skip
                  refine x_aload_n dX5_buy_144 rfl rfl ?_
                  refine x_aload_n dX5_buy_145 rfl rfl ?_
                  refine tg_g T (.inl q2082) dX5_buy_146 ?_
                  refine x_cVV (t_keepsF T VO) okX5_keeps clX5 q2167 q2169 qs25 dX5_buy_149 (Or.inl T.1) rfl rfl (by decide) (Nat.zero_le _) (Nat.zero_le _) (Nat.le_of_ble_eq_true rfl) (fun _ => ?_)
                  refine x_aload_n dX5_buy_152 rfl rfl ?_
                  refine tg_g T (.inl q2082) dX5_buy_153 ?_
                  refine x_bipush (nI 6) dX5_buy_156 (by decide) ?_
                  refine x_dup2 dX5_buy_158 rfl rfl ?_
                  refine tld1 T rfl (by omega) dX5_buy_159 ?_
                  refine x_iload dX5_buy_160 rfl ?_
                  refine x_isub dX5_buy_162 ?_
                  refine tst1 T rfl (by omega) dX5_buy_163 ?_
                  refine x_aload_n dX5_buy_164 rfl rfl ?_
                  refine tg_g T (.inl q2082) dX5_buy_165 ?_
                  refine x_iconst (nI 1) dX5_buy_168 (by decide) ?_
                  refine x_iload_n dX5_buy_169 rfl rfl ?_
                  refine x_iadd dX5_buy_170 ?_
                  refine x_val (nI_add _ _) ?_
                  refine x_iload dX5_buy_171 rfl ?_
                  refine tst1 T rfl (by omega) dX5_buy_173 ?_
                  refine x_iload dX5_buy_174 rfl ?_
                  refine x_iret rfl dX5_buy_176 ?_
                  rw [show sp_buy g (nI k) (nI m) = okR ((g (1 + k)) + (nI (1 * m))) (upd (upd g 6 ((g 6) - (nI (1 * m)))) (1 + k) ((g (1 + k)) + (nI (1 * m)))) from by simp_all [sp_buy, ← pk_mul, ← nI_add, nIl, ixl, nle_i, nlt_i]]
                  exact ⟨rfl, by simp only [twR, upd_uu]; try rfl⟩
                · skip
                  refine x_aload_n dX5_buy_127 rfl rfl ?_
                  refine x_iconst (nI 2) dX5_buy_128 (by decide) ?_
                  refine x_iconst (nI 5) dX5_buy_129 (by decide) ?_
                  refine x_iload dX5_buy_130 rfl ?_
                  refine x_aload_n dX5_buy_132 rfl rfl ?_
                  refine tg_g T (.inl q2082) dX5_buy_133 ?_
                  refine x_bipush (nI 6) dX5_buy_136 (by decide) ?_
                  refine tld1 T rfl (by omega) dX5_buy_138 ?_
                  refine x_isub dX5_buy_139 ?_
                  refine x_cVI (t_refuses T) okX5_refuses clX5 q2163 q2165 qs24 dX5_buy_140 (Or.inl T.1) rfl rfl (by decide) (Nat.zero_le _) (Nat.zero_le _) (Nat.le_of_ble_eq_true rfl) (fun _ => ?_)
                  refine x_iret rfl dX5_buy_143 ?_
                  rw [show sp_buy g (nI k) (nI m) = refR (nI 5) ((nI (1 * m)) - (g 6)) g from by simp_all [sp_buy, ← pk_mul, ← nI_add, nIl, ixl, nle_i, nlt_i]]
                  exact ⟨rfl, by simp only [twR, upd_uu]; try rfl⟩
              · skip
                refine x_aload_n dX5_buy_106 rfl rfl ?_
                refine x_iconst (nI 2) dX5_buy_107 (by decide) ?_
                refine x_iconst (nI 1) dX5_buy_108 (by decide) ?_
                refine x_iload dX5_buy_109 rfl ?_
                refine x_cVI (t_refuses T) okX5_refuses clX5 q2163 q2165 qs24 dX5_buy_111 (Or.inl T.1) rfl rfl (by decide) (Nat.zero_le _) (Nat.zero_le _) (Nat.le_of_ble_eq_true rfl) (fun _ => ?_)
                refine x_iret rfl dX5_buy_114 ?_
                rw [show sp_buy g (nI k) (nI m) = refR (nI 1) (nI 500) g from by simp_all [sp_buy, ← pk_mul, ← nI_add, nIl, ixl, nle_i, nlt_i]]
                exact ⟨rfl, by simp only [twR, upd_uu]; try rfl⟩
            · skip
              have ne11 := e11
              rw [nI_leI (by omega) (by omega)] at ne11
              refine x_iload_n dX5_buy_88 rfl rfl ?_
              refine x_iconst (nI 1) dX5_buy_89 (by decide) ?_
              refine x_iadd dX5_buy_90 ?_
              refine x_val (nI_add _ _) ?_
              refine x_goto 95 dX5_buy_91 (by decide) ?_
              refine x_iload_n dX5_buy_95 rfl rfl ?_
              refine x_imul dX5_buy_96 ?_
              refine x_val (pk_mul _ _) ?_
              refine x_istore [(6, .int (nI ((k + 1) * m))), (5, .int ((g (1 + k)) + (nI (1 * m)))), (4, .int (nI 500)), (3, .int (nI 1)), (0, .ref a), (1, .int (nI k)), (2, .int (nI m))] dX5_buy_97 (by decide) rfl ?_
              refine x_iload dX5_buy_99 rfl ?_
              refine x_iload dX5_buy_101 rfl ?_
              refine x_icmp_le 115 dX5_buy_103 (by decide) (fun e14 => ?_) (fun e14 => ?_)
              · skip
                refine x_iload dX5_buy_115 rfl ?_
                refine x_aload_n dX5_buy_117 rfl rfl ?_
                refine tg_g T (.inl q2082) dX5_buy_118 ?_
                refine x_bipush (nI 6) dX5_buy_121 (by decide) ?_
                refine tld1 T rfl (by omega) dX5_buy_123 ?_
                refine x_icmp_le 144 dX5_buy_124 (by decide) (fun e15 => ?_) (fun e15 => ?_)
                · skip
                  refine x_aload_n dX5_buy_144 rfl rfl ?_
                  refine x_aload_n dX5_buy_145 rfl rfl ?_
                  refine tg_g T (.inl q2082) dX5_buy_146 ?_
                  refine x_cVV (t_keepsF T VO) okX5_keeps clX5 q2167 q2169 qs25 dX5_buy_149 (Or.inl T.1) rfl rfl (by decide) (Nat.zero_le _) (Nat.zero_le _) (Nat.le_of_ble_eq_true rfl) (fun _ => ?_)
                  refine x_aload_n dX5_buy_152 rfl rfl ?_
                  refine tg_g T (.inl q2082) dX5_buy_153 ?_
                  refine x_bipush (nI 6) dX5_buy_156 (by decide) ?_
                  refine x_dup2 dX5_buy_158 rfl rfl ?_
                  refine tld1 T rfl (by omega) dX5_buy_159 ?_
                  refine x_iload dX5_buy_160 rfl ?_
                  refine x_isub dX5_buy_162 ?_
                  refine tst1 T rfl (by omega) dX5_buy_163 ?_
                  refine x_aload_n dX5_buy_164 rfl rfl ?_
                  refine tg_g T (.inl q2082) dX5_buy_165 ?_
                  refine x_iconst (nI 1) dX5_buy_168 (by decide) ?_
                  refine x_iload_n dX5_buy_169 rfl rfl ?_
                  refine x_iadd dX5_buy_170 ?_
                  refine x_val (nI_add _ _) ?_
                  refine x_iload dX5_buy_171 rfl ?_
                  refine tst1 T rfl (by omega) dX5_buy_173 ?_
                  refine x_iload dX5_buy_174 rfl ?_
                  refine x_iret rfl dX5_buy_176 ?_
                  rw [show sp_buy g (nI k) (nI m) = okR ((g (1 + k)) + (nI (1 * m))) (upd (upd g 6 ((g 6) - (nI ((k + 1) * m)))) (1 + k) ((g (1 + k)) + (nI (1 * m)))) from by simp_all [sp_buy, ← pk_mul, ← nI_add, nIl, ixl, nle_i, nlt_i]]
                  exact ⟨rfl, by simp only [twR, upd_uu]; try rfl⟩
                · skip
                  refine x_aload_n dX5_buy_127 rfl rfl ?_
                  refine x_iconst (nI 2) dX5_buy_128 (by decide) ?_
                  refine x_iconst (nI 5) dX5_buy_129 (by decide) ?_
                  refine x_iload dX5_buy_130 rfl ?_
                  refine x_aload_n dX5_buy_132 rfl rfl ?_
                  refine tg_g T (.inl q2082) dX5_buy_133 ?_
                  refine x_bipush (nI 6) dX5_buy_136 (by decide) ?_
                  refine tld1 T rfl (by omega) dX5_buy_138 ?_
                  refine x_isub dX5_buy_139 ?_
                  refine x_cVI (t_refuses T) okX5_refuses clX5 q2163 q2165 qs24 dX5_buy_140 (Or.inl T.1) rfl rfl (by decide) (Nat.zero_le _) (Nat.zero_le _) (Nat.le_of_ble_eq_true rfl) (fun _ => ?_)
                  refine x_iret rfl dX5_buy_143 ?_
                  rw [show sp_buy g (nI k) (nI m) = refR (nI 5) ((nI ((k + 1) * m)) - (g 6)) g from by simp_all [sp_buy, ← pk_mul, ← nI_add, nIl, ixl, nle_i, nlt_i]]
                  exact ⟨rfl, by simp only [twR, upd_uu]; try rfl⟩
              · skip
                refine x_aload_n dX5_buy_106 rfl rfl ?_
                refine x_iconst (nI 2) dX5_buy_107 (by decide) ?_
                refine x_iconst (nI 1) dX5_buy_108 (by decide) ?_
                refine x_iload dX5_buy_109 rfl ?_
                refine x_cVI (t_refuses T) okX5_refuses clX5 q2163 q2165 qs24 dX5_buy_111 (Or.inl T.1) rfl rfl (by decide) (Nat.zero_le _) (Nat.zero_le _) (Nat.le_of_ble_eq_true rfl) (fun _ => ?_)
                refine x_iret rfl dX5_buy_114 ?_
                rw [show sp_buy g (nI k) (nI m) = refR (nI 1) (nI 500) g from by simp_all [sp_buy, ← pk_mul, ← nI_add, nIl, ixl, nle_i, nlt_i]]
                exact ⟨rfl, by simp only [twR, upd_uu]; try rfl⟩
        · skip
          have ne4 := e4
          rw [nI_eq (by omega) (by omega)] at ne4
          refine x_iconst (nI 5) dX5_buy_48 (by decide) ?_
          refine x_goto 53 dX5_buy_49 (by decide) ?_
          refine x_istore_n [(3, .int (nI 5)), (0, .ref a), (1, .int (nI k)), (2, .int (nI m))] dX5_buy_53 rfl (by decide) rfl ?_
          refine x_iload_n dX5_buy_54 rfl rfl ?_
          refine x_iconst (nI 3) dX5_buy_55 (by decide) ?_
          refine x_icmp_ge 65 dX5_buy_56 (by decide) (fun e16 => ?_) (fun e16 => ?_)
          · skip
            have ne16 := e16
            rw [nI_leI (by omega) (by omega)] at ne16
            refine x_bipush (nI 99) dX5_buy_65 (by decide) ?_
            refine x_istore [(4, .int (nI 99)), (3, .int (nI 5)), (0, .ref a), (1, .int (nI k)), (2, .int (nI m))] dX5_buy_67 (by decide) rfl ?_
            refine x_aload_n dX5_buy_69 rfl rfl ?_
            refine tg_g T (.inl q2082) dX5_buy_70 ?_
            refine x_iconst (nI 1) dX5_buy_73 (by decide) ?_
            refine x_iload_n dX5_buy_74 rfl rfl ?_
            refine x_iadd dX5_buy_75 ?_
            refine x_val (nI_add _ _) ?_
            refine tld1 T rfl (by omega) dX5_buy_76 ?_
            refine x_iload_n dX5_buy_77 rfl rfl ?_
            refine x_iload_n dX5_buy_78 rfl rfl ?_
            refine x_imul dX5_buy_79 ?_
            refine x_val (pk_mul _ _) ?_
            refine x_iadd dX5_buy_80 ?_
            refine x_istore [(5, .int ((g (1 + k)) + (nI (5 * m)))), (4, .int (nI 99)), (3, .int (nI 5)), (0, .ref a), (1, .int (nI k)), (2, .int (nI m))] dX5_buy_81 (by decide) rfl ?_
            refine x_iload_n dX5_buy_83 rfl rfl ?_
            refine x_iconst (nI 3) dX5_buy_84 (by decide) ?_
            refine x_icmp_ge 94 dX5_buy_85 (by decide) (fun e17 => ?_) (fun e17 => ?_)
            · skip
              have ne17 := e17
              rw [nI_leI (by omega) (by omega)] at ne17
              refine x_iconst (nI 1) dX5_buy_94 (by decide) ?_
              refine x_iload_n dX5_buy_95 rfl rfl ?_
              refine x_imul dX5_buy_96 ?_
              refine x_val (pk_mul _ _) ?_
              refine x_istore [(6, .int (nI (1 * m))), (5, .int ((g (1 + k)) + (nI (5 * m)))), (4, .int (nI 99)), (3, .int (nI 5)), (0, .ref a), (1, .int (nI k)), (2, .int (nI m))] dX5_buy_97 (by decide) rfl ?_
              refine x_iload dX5_buy_99 rfl ?_
              refine x_iload dX5_buy_101 rfl ?_
              refine x_icmp_le 115 dX5_buy_103 (by decide) (fun e18 => ?_) (fun e18 => ?_)
              · skip
                refine x_iload dX5_buy_115 rfl ?_
                refine x_aload_n dX5_buy_117 rfl rfl ?_
                refine tg_g T (.inl q2082) dX5_buy_118 ?_
                refine x_bipush (nI 6) dX5_buy_121 (by decide) ?_
                refine tld1 T rfl (by omega) dX5_buy_123 ?_
                refine x_icmp_le 144 dX5_buy_124 (by decide) (fun e19 => ?_) (fun e19 => ?_)
                · skip
                  refine x_aload_n dX5_buy_144 rfl rfl ?_
                  refine x_aload_n dX5_buy_145 rfl rfl ?_
                  refine tg_g T (.inl q2082) dX5_buy_146 ?_
                  refine x_cVV (t_keepsF T VO) okX5_keeps clX5 q2167 q2169 qs25 dX5_buy_149 (Or.inl T.1) rfl rfl (by decide) (Nat.zero_le _) (Nat.zero_le _) (Nat.le_of_ble_eq_true rfl) (fun _ => ?_)
                  refine x_aload_n dX5_buy_152 rfl rfl ?_
                  refine tg_g T (.inl q2082) dX5_buy_153 ?_
                  refine x_bipush (nI 6) dX5_buy_156 (by decide) ?_
                  refine x_dup2 dX5_buy_158 rfl rfl ?_
                  refine tld1 T rfl (by omega) dX5_buy_159 ?_
                  refine x_iload dX5_buy_160 rfl ?_
                  refine x_isub dX5_buy_162 ?_
                  refine tst1 T rfl (by omega) dX5_buy_163 ?_
                  refine x_aload_n dX5_buy_164 rfl rfl ?_
                  refine tg_g T (.inl q2082) dX5_buy_165 ?_
                  refine x_iconst (nI 1) dX5_buy_168 (by decide) ?_
                  refine x_iload_n dX5_buy_169 rfl rfl ?_
                  refine x_iadd dX5_buy_170 ?_
                  refine x_val (nI_add _ _) ?_
                  refine x_iload dX5_buy_171 rfl ?_
                  refine tst1 T rfl (by omega) dX5_buy_173 ?_
                  refine x_iload dX5_buy_174 rfl ?_
                  refine x_iret rfl dX5_buy_176 ?_
                  rw [show sp_buy g (nI k) (nI m) = okR ((g (1 + k)) + (nI (5 * m))) (upd (upd g 6 ((g 6) - (nI (1 * m)))) (1 + k) ((g (1 + k)) + (nI (5 * m)))) from by simp_all [sp_buy, ← pk_mul, ← nI_add, nIl, ixl, nle_i, nlt_i]]
                  exact ⟨rfl, by simp only [twR, upd_uu]; try rfl⟩
                · skip
                  refine x_aload_n dX5_buy_127 rfl rfl ?_
                  refine x_iconst (nI 2) dX5_buy_128 (by decide) ?_
                  refine x_iconst (nI 5) dX5_buy_129 (by decide) ?_
                  refine x_iload dX5_buy_130 rfl ?_
                  refine x_aload_n dX5_buy_132 rfl rfl ?_
                  refine tg_g T (.inl q2082) dX5_buy_133 ?_
                  refine x_bipush (nI 6) dX5_buy_136 (by decide) ?_
                  refine tld1 T rfl (by omega) dX5_buy_138 ?_
                  refine x_isub dX5_buy_139 ?_
                  refine x_cVI (t_refuses T) okX5_refuses clX5 q2163 q2165 qs24 dX5_buy_140 (Or.inl T.1) rfl rfl (by decide) (Nat.zero_le _) (Nat.zero_le _) (Nat.le_of_ble_eq_true rfl) (fun _ => ?_)
                  refine x_iret rfl dX5_buy_143 ?_
                  rw [show sp_buy g (nI k) (nI m) = refR (nI 5) ((nI (1 * m)) - (g 6)) g from by simp_all [sp_buy, ← pk_mul, ← nI_add, nIl, ixl, nle_i, nlt_i]]
                  exact ⟨rfl, by simp only [twR, upd_uu]; try rfl⟩
              · skip
                refine x_aload_n dX5_buy_106 rfl rfl ?_
                refine x_iconst (nI 2) dX5_buy_107 (by decide) ?_
                refine x_iconst (nI 1) dX5_buy_108 (by decide) ?_
                refine x_iload dX5_buy_109 rfl ?_
                refine x_cVI (t_refuses T) okX5_refuses clX5 q2163 q2165 qs24 dX5_buy_111 (Or.inl T.1) rfl rfl (by decide) (Nat.zero_le _) (Nat.zero_le _) (Nat.le_of_ble_eq_true rfl) (fun _ => ?_)
                refine x_iret rfl dX5_buy_114 ?_
                rw [show sp_buy g (nI k) (nI m) = refR (nI 1) (nI 99) g from by simp_all [sp_buy, ← pk_mul, ← nI_add, nIl, ixl, nle_i, nlt_i]]
                exact ⟨rfl, by simp only [twR, upd_uu]; try rfl⟩
            · skip
              have ne17 := e17
              rw [nI_leI (by omega) (by omega)] at ne17
              refine x_iload_n dX5_buy_88 rfl rfl ?_
              refine x_iconst (nI 1) dX5_buy_89 (by decide) ?_
              refine x_iadd dX5_buy_90 ?_
              refine x_val (nI_add _ _) ?_
              refine x_goto 95 dX5_buy_91 (by decide) ?_
              refine x_iload_n dX5_buy_95 rfl rfl ?_
              refine x_imul dX5_buy_96 ?_
              refine x_val (pk_mul _ _) ?_
              refine x_istore [(6, .int (nI ((k + 1) * m))), (5, .int ((g (1 + k)) + (nI (5 * m)))), (4, .int (nI 99)), (3, .int (nI 5)), (0, .ref a), (1, .int (nI k)), (2, .int (nI m))] dX5_buy_97 (by decide) rfl ?_
              refine x_iload dX5_buy_99 rfl ?_
              refine x_iload dX5_buy_101 rfl ?_
              refine x_icmp_le 115 dX5_buy_103 (by decide) (fun e20 => ?_) (fun e20 => ?_)
              · skip
                refine x_iload dX5_buy_115 rfl ?_
                refine x_aload_n dX5_buy_117 rfl rfl ?_
                refine tg_g T (.inl q2082) dX5_buy_118 ?_
                refine x_bipush (nI 6) dX5_buy_121 (by decide) ?_
                refine tld1 T rfl (by omega) dX5_buy_123 ?_
                refine x_icmp_le 144 dX5_buy_124 (by decide) (fun e21 => ?_) (fun e21 => ?_)
                · skip
                  refine x_aload_n dX5_buy_144 rfl rfl ?_
                  refine x_aload_n dX5_buy_145 rfl rfl ?_
                  refine tg_g T (.inl q2082) dX5_buy_146 ?_
                  refine x_cVV (t_keepsF T VO) okX5_keeps clX5 q2167 q2169 qs25 dX5_buy_149 (Or.inl T.1) rfl rfl (by decide) (Nat.zero_le _) (Nat.zero_le _) (Nat.le_of_ble_eq_true rfl) (fun _ => ?_)
                  refine x_aload_n dX5_buy_152 rfl rfl ?_
                  refine tg_g T (.inl q2082) dX5_buy_153 ?_
                  refine x_bipush (nI 6) dX5_buy_156 (by decide) ?_
                  refine x_dup2 dX5_buy_158 rfl rfl ?_
                  refine tld1 T rfl (by omega) dX5_buy_159 ?_
                  refine x_iload dX5_buy_160 rfl ?_
                  refine x_isub dX5_buy_162 ?_
                  refine tst1 T rfl (by omega) dX5_buy_163 ?_
                  refine x_aload_n dX5_buy_164 rfl rfl ?_
                  refine tg_g T (.inl q2082) dX5_buy_165 ?_
                  refine x_iconst (nI 1) dX5_buy_168 (by decide) ?_
                  refine x_iload_n dX5_buy_169 rfl rfl ?_
                  refine x_iadd dX5_buy_170 ?_
                  refine x_val (nI_add _ _) ?_
                  refine x_iload dX5_buy_171 rfl ?_
                  refine tst1 T rfl (by omega) dX5_buy_173 ?_
                  refine x_iload dX5_buy_174 rfl ?_
                  refine x_iret rfl dX5_buy_176 ?_
                  rw [show sp_buy g (nI k) (nI m) = okR ((g (1 + k)) + (nI (5 * m))) (upd (upd g 6 ((g 6) - (nI ((k + 1) * m)))) (1 + k) ((g (1 + k)) + (nI (5 * m)))) from by simp_all [sp_buy, ← pk_mul, ← nI_add, nIl, ixl, nle_i, nlt_i]]
                  exact ⟨rfl, by simp only [twR, upd_uu]; try rfl⟩
                · skip
                  refine x_aload_n dX5_buy_127 rfl rfl ?_
                  refine x_iconst (nI 2) dX5_buy_128 (by decide) ?_
                  refine x_iconst (nI 5) dX5_buy_129 (by decide) ?_
                  refine x_iload dX5_buy_130 rfl ?_
                  refine x_aload_n dX5_buy_132 rfl rfl ?_
                  refine tg_g T (.inl q2082) dX5_buy_133 ?_
                  refine x_bipush (nI 6) dX5_buy_136 (by decide) ?_
                  refine tld1 T rfl (by omega) dX5_buy_138 ?_
                  refine x_isub dX5_buy_139 ?_
                  refine x_cVI (t_refuses T) okX5_refuses clX5 q2163 q2165 qs24 dX5_buy_140 (Or.inl T.1) rfl rfl (by decide) (Nat.zero_le _) (Nat.zero_le _) (Nat.le_of_ble_eq_true rfl) (fun _ => ?_)
                  refine x_iret rfl dX5_buy_143 ?_
                  rw [show sp_buy g (nI k) (nI m) = refR (nI 5) ((nI ((k + 1) * m)) - (g 6)) g from by simp_all [sp_buy, ← pk_mul, ← nI_add, nIl, ixl, nle_i, nlt_i]]
                  exact ⟨rfl, by simp only [twR, upd_uu]; try rfl⟩
              · skip
                refine x_aload_n dX5_buy_106 rfl rfl ?_
                refine x_iconst (nI 2) dX5_buy_107 (by decide) ?_
                refine x_iconst (nI 1) dX5_buy_108 (by decide) ?_
                refine x_iload dX5_buy_109 rfl ?_
                refine x_cVI (t_refuses T) okX5_refuses clX5 q2163 q2165 qs24 dX5_buy_111 (Or.inl T.1) rfl rfl (by decide) (Nat.zero_le _) (Nat.zero_le _) (Nat.le_of_ble_eq_true rfl) (fun _ => ?_)
                refine x_iret rfl dX5_buy_114 ?_
                rw [show sp_buy g (nI k) (nI m) = refR (nI 1) (nI 99) g from by simp_all [sp_buy, ← pk_mul, ← nI_add, nIl, ixl, nle_i, nlt_i]]
                exact ⟨rfl, by simp only [twR, upd_uu]; try rfl⟩
          · skip
            have ne16 := e16
            rw [nI_leI (by omega) (by omega)] at ne16
            refine x_sipush (nI 500) dX5_buy_59 (by decide) ?_
            refine x_goto 67 dX5_buy_62 (by decide) ?_
            refine x_istore [(4, .int (nI 500)), (3, .int (nI 5)), (0, .ref a), (1, .int (nI k)), (2, .int (nI m))] dX5_buy_67 (by decide) rfl ?_
            refine x_aload_n dX5_buy_69 rfl rfl ?_
            refine tg_g T (.inl q2082) dX5_buy_70 ?_
            refine x_iconst (nI 1) dX5_buy_73 (by decide) ?_
            refine x_iload_n dX5_buy_74 rfl rfl ?_
            refine x_iadd dX5_buy_75 ?_
            refine x_val (nI_add _ _) ?_
            refine tld1 T rfl (by omega) dX5_buy_76 ?_
            refine x_iload_n dX5_buy_77 rfl rfl ?_
            refine x_iload_n dX5_buy_78 rfl rfl ?_
            refine x_imul dX5_buy_79 ?_
            refine x_val (pk_mul _ _) ?_
            refine x_iadd dX5_buy_80 ?_
            refine x_istore [(5, .int ((g (1 + k)) + (nI (5 * m)))), (4, .int (nI 500)), (3, .int (nI 5)), (0, .ref a), (1, .int (nI k)), (2, .int (nI m))] dX5_buy_81 (by decide) rfl ?_
            refine x_iload_n dX5_buy_83 rfl rfl ?_
            refine x_iconst (nI 3) dX5_buy_84 (by decide) ?_
            refine x_icmp_ge 94 dX5_buy_85 (by decide) (fun e22 => ?_) (fun e22 => ?_)
            · skip
              have ne22 := e22
              rw [nI_leI (by omega) (by omega)] at ne22
              refine x_iconst (nI 1) dX5_buy_94 (by decide) ?_
              refine x_iload_n dX5_buy_95 rfl rfl ?_
              refine x_imul dX5_buy_96 ?_
              refine x_val (pk_mul _ _) ?_
              refine x_istore [(6, .int (nI (1 * m))), (5, .int ((g (1 + k)) + (nI (5 * m)))), (4, .int (nI 500)), (3, .int (nI 5)), (0, .ref a), (1, .int (nI k)), (2, .int (nI m))] dX5_buy_97 (by decide) rfl ?_
              refine x_iload dX5_buy_99 rfl ?_
              refine x_iload dX5_buy_101 rfl ?_
              refine x_icmp_le 115 dX5_buy_103 (by decide) (fun e23 => ?_) (fun e23 => ?_)
              · skip
                refine x_iload dX5_buy_115 rfl ?_
                refine x_aload_n dX5_buy_117 rfl rfl ?_
                refine tg_g T (.inl q2082) dX5_buy_118 ?_
                refine x_bipush (nI 6) dX5_buy_121 (by decide) ?_
                refine tld1 T rfl (by omega) dX5_buy_123 ?_
                refine x_icmp_le 144 dX5_buy_124 (by decide) (fun e24 => ?_) (fun e24 => ?_)
                · skip
                  refine x_aload_n dX5_buy_144 rfl rfl ?_
                  refine x_aload_n dX5_buy_145 rfl rfl ?_
                  refine tg_g T (.inl q2082) dX5_buy_146 ?_
                  refine x_cVV (t_keepsF T VO) okX5_keeps clX5 q2167 q2169 qs25 dX5_buy_149 (Or.inl T.1) rfl rfl (by decide) (Nat.zero_le _) (Nat.zero_le _) (Nat.le_of_ble_eq_true rfl) (fun _ => ?_)
                  refine x_aload_n dX5_buy_152 rfl rfl ?_
                  refine tg_g T (.inl q2082) dX5_buy_153 ?_
                  refine x_bipush (nI 6) dX5_buy_156 (by decide) ?_
                  refine x_dup2 dX5_buy_158 rfl rfl ?_
                  refine tld1 T rfl (by omega) dX5_buy_159 ?_
                  refine x_iload dX5_buy_160 rfl ?_
                  refine x_isub dX5_buy_162 ?_
                  refine tst1 T rfl (by omega) dX5_buy_163 ?_
                  refine x_aload_n dX5_buy_164 rfl rfl ?_
                  refine tg_g T (.inl q2082) dX5_buy_165 ?_
                  refine x_iconst (nI 1) dX5_buy_168 (by decide) ?_
                  refine x_iload_n dX5_buy_169 rfl rfl ?_
                  refine x_iadd dX5_buy_170 ?_
                  refine x_val (nI_add _ _) ?_
                  refine x_iload dX5_buy_171 rfl ?_
                  refine tst1 T rfl (by omega) dX5_buy_173 ?_
                  refine x_iload dX5_buy_174 rfl ?_
                  refine x_iret rfl dX5_buy_176 ?_
                  rw [show sp_buy g (nI k) (nI m) = okR ((g (1 + k)) + (nI (5 * m))) (upd (upd g 6 ((g 6) - (nI (1 * m)))) (1 + k) ((g (1 + k)) + (nI (5 * m)))) from by simp_all [sp_buy, ← pk_mul, ← nI_add, nIl, ixl, nle_i, nlt_i]]
                  exact ⟨rfl, by simp only [twR, upd_uu]; try rfl⟩
                · skip
                  refine x_aload_n dX5_buy_127 rfl rfl ?_
                  refine x_iconst (nI 2) dX5_buy_128 (by decide) ?_
                  refine x_iconst (nI 5) dX5_buy_129 (by decide) ?_
                  refine x_iload dX5_buy_130 rfl ?_
                  refine x_aload_n dX5_buy_132 rfl rfl ?_
                  refine tg_g T (.inl q2082) dX5_buy_133 ?_
                  refine x_bipush (nI 6) dX5_buy_136 (by decide) ?_
                  refine tld1 T rfl (by omega) dX5_buy_138 ?_
                  refine x_isub dX5_buy_139 ?_
                  refine x_cVI (t_refuses T) okX5_refuses clX5 q2163 q2165 qs24 dX5_buy_140 (Or.inl T.1) rfl rfl (by decide) (Nat.zero_le _) (Nat.zero_le _) (Nat.le_of_ble_eq_true rfl) (fun _ => ?_)
                  refine x_iret rfl dX5_buy_143 ?_
                  rw [show sp_buy g (nI k) (nI m) = refR (nI 5) ((nI (1 * m)) - (g 6)) g from by simp_all [sp_buy, ← pk_mul, ← nI_add, nIl, ixl, nle_i, nlt_i]]
                  exact ⟨rfl, by simp only [twR, upd_uu]; try rfl⟩
              · skip
                refine x_aload_n dX5_buy_106 rfl rfl ?_
                refine x_iconst (nI 2) dX5_buy_107 (by decide) ?_
                refine x_iconst (nI 1) dX5_buy_108 (by decide) ?_
                refine x_iload dX5_buy_109 rfl ?_
                refine x_cVI (t_refuses T) okX5_refuses clX5 q2163 q2165 qs24 dX5_buy_111 (Or.inl T.1) rfl rfl (by decide) (Nat.zero_le _) (Nat.zero_le _) (Nat.le_of_ble_eq_true rfl) (fun _ => ?_)
                refine x_iret rfl dX5_buy_114 ?_
                rw [show sp_buy g (nI k) (nI m) = refR (nI 1) (nI 500) g from by simp_all [sp_buy, ← pk_mul, ← nI_add, nIl, ixl, nle_i, nlt_i]]
                exact ⟨rfl, by simp only [twR, upd_uu]; try rfl⟩
            · skip
              have ne22 := e22
              rw [nI_leI (by omega) (by omega)] at ne22
              refine x_iload_n dX5_buy_88 rfl rfl ?_
              refine x_iconst (nI 1) dX5_buy_89 (by decide) ?_
              refine x_iadd dX5_buy_90 ?_
              refine x_val (nI_add _ _) ?_
              refine x_goto 95 dX5_buy_91 (by decide) ?_
              refine x_iload_n dX5_buy_95 rfl rfl ?_
              refine x_imul dX5_buy_96 ?_
              refine x_val (pk_mul _ _) ?_
              refine x_istore [(6, .int (nI ((k + 1) * m))), (5, .int ((g (1 + k)) + (nI (5 * m)))), (4, .int (nI 500)), (3, .int (nI 5)), (0, .ref a), (1, .int (nI k)), (2, .int (nI m))] dX5_buy_97 (by decide) rfl ?_
              refine x_iload dX5_buy_99 rfl ?_
              refine x_iload dX5_buy_101 rfl ?_
              refine x_icmp_le 115 dX5_buy_103 (by decide) (fun e25 => ?_) (fun e25 => ?_)
              · skip
                refine x_iload dX5_buy_115 rfl ?_
                refine x_aload_n dX5_buy_117 rfl rfl ?_
                refine tg_g T (.inl q2082) dX5_buy_118 ?_
                refine x_bipush (nI 6) dX5_buy_121 (by decide) ?_
                refine tld1 T rfl (by omega) dX5_buy_123 ?_
                refine x_icmp_le 144 dX5_buy_124 (by decide) (fun e26 => ?_) (fun e26 => ?_)
                · skip
                  refine x_aload_n dX5_buy_144 rfl rfl ?_
                  refine x_aload_n dX5_buy_145 rfl rfl ?_
                  refine tg_g T (.inl q2082) dX5_buy_146 ?_
                  refine x_cVV (t_keepsF T VO) okX5_keeps clX5 q2167 q2169 qs25 dX5_buy_149 (Or.inl T.1) rfl rfl (by decide) (Nat.zero_le _) (Nat.zero_le _) (Nat.le_of_ble_eq_true rfl) (fun _ => ?_)
                  refine x_aload_n dX5_buy_152 rfl rfl ?_
                  refine tg_g T (.inl q2082) dX5_buy_153 ?_
                  refine x_bipush (nI 6) dX5_buy_156 (by decide) ?_
                  refine x_dup2 dX5_buy_158 rfl rfl ?_
                  refine tld1 T rfl (by omega) dX5_buy_159 ?_
                  refine x_iload dX5_buy_160 rfl ?_
                  refine x_isub dX5_buy_162 ?_
                  refine tst1 T rfl (by omega) dX5_buy_163 ?_
                  refine x_aload_n dX5_buy_164 rfl rfl ?_
                  refine tg_g T (.inl q2082) dX5_buy_165 ?_
                  refine x_iconst (nI 1) dX5_buy_168 (by decide) ?_
                  refine x_iload_n dX5_buy_169 rfl rfl ?_
                  refine x_iadd dX5_buy_170 ?_
                  refine x_val (nI_add _ _) ?_
                  refine x_iload dX5_buy_171 rfl ?_
                  refine tst1 T rfl (by omega) dX5_buy_173 ?_
                  refine x_iload dX5_buy_174 rfl ?_
                  refine x_iret rfl dX5_buy_176 ?_
                  rw [show sp_buy g (nI k) (nI m) = okR ((g (1 + k)) + (nI (5 * m))) (upd (upd g 6 ((g 6) - (nI ((k + 1) * m)))) (1 + k) ((g (1 + k)) + (nI (5 * m)))) from by simp_all [sp_buy, ← pk_mul, ← nI_add, nIl, ixl, nle_i, nlt_i]]
                  exact ⟨rfl, by simp only [twR, upd_uu]; try rfl⟩
                · skip
                  refine x_aload_n dX5_buy_127 rfl rfl ?_
                  refine x_iconst (nI 2) dX5_buy_128 (by decide) ?_
                  refine x_iconst (nI 5) dX5_buy_129 (by decide) ?_
                  refine x_iload dX5_buy_130 rfl ?_
                  refine x_aload_n dX5_buy_132 rfl rfl ?_
                  refine tg_g T (.inl q2082) dX5_buy_133 ?_
                  refine x_bipush (nI 6) dX5_buy_136 (by decide) ?_
                  refine tld1 T rfl (by omega) dX5_buy_138 ?_
                  refine x_isub dX5_buy_139 ?_
                  refine x_cVI (t_refuses T) okX5_refuses clX5 q2163 q2165 qs24 dX5_buy_140 (Or.inl T.1) rfl rfl (by decide) (Nat.zero_le _) (Nat.zero_le _) (Nat.le_of_ble_eq_true rfl) (fun _ => ?_)
                  refine x_iret rfl dX5_buy_143 ?_
                  rw [show sp_buy g (nI k) (nI m) = refR (nI 5) ((nI ((k + 1) * m)) - (g 6)) g from by simp_all [sp_buy, ← pk_mul, ← nI_add, nIl, ixl, nle_i, nlt_i]]
                  exact ⟨rfl, by simp only [twR, upd_uu]; try rfl⟩
              · skip
                refine x_aload_n dX5_buy_106 rfl rfl ?_
                refine x_iconst (nI 2) dX5_buy_107 (by decide) ?_
                refine x_iconst (nI 1) dX5_buy_108 (by decide) ?_
                refine x_iload dX5_buy_109 rfl ?_
                refine x_cVI (t_refuses T) okX5_refuses clX5 q2163 q2165 qs24 dX5_buy_111 (Or.inl T.1) rfl rfl (by decide) (Nat.zero_le _) (Nat.zero_le _) (Nat.le_of_ble_eq_true rfl) (fun _ => ?_)
                refine x_iret rfl dX5_buy_114 ?_
                rw [show sp_buy g (nI k) (nI m) = refR (nI 1) (nI 500) g from by simp_all [sp_buy, ← pk_mul, ← nI_add, nIl, ixl, nle_i, nlt_i]]
                exact ⟨rfl, by simp only [twR, upd_uu]; try rfl⟩
      · skip
        have ne3 := e3
        rw [nI_leI (by omega) (by omega)] at ne3
        refine x_bipush (nI 10) dX5_buy_38 (by decide) ?_
        refine x_goto 53 dX5_buy_40 (by decide) ?_
        refine x_istore_n [(3, .int (nI 10)), (0, .ref a), (1, .int (nI k)), (2, .int (nI m))] dX5_buy_53 rfl (by decide) rfl ?_
        refine x_iload_n dX5_buy_54 rfl rfl ?_
        refine x_iconst (nI 3) dX5_buy_55 (by decide) ?_
        refine x_icmp_ge 65 dX5_buy_56 (by decide) (fun e27 => ?_) (fun e27 => ?_)
        · skip
          have ne27 := e27
          rw [nI_leI (by omega) (by omega)] at ne27
          refine x_bipush (nI 99) dX5_buy_65 (by decide) ?_
          refine x_istore [(4, .int (nI 99)), (3, .int (nI 10)), (0, .ref a), (1, .int (nI k)), (2, .int (nI m))] dX5_buy_67 (by decide) rfl ?_
          refine x_aload_n dX5_buy_69 rfl rfl ?_
          refine tg_g T (.inl q2082) dX5_buy_70 ?_
          refine x_iconst (nI 1) dX5_buy_73 (by decide) ?_
          refine x_iload_n dX5_buy_74 rfl rfl ?_
          refine x_iadd dX5_buy_75 ?_
          refine x_val (nI_add _ _) ?_
          refine tld1 T rfl (by omega) dX5_buy_76 ?_
          refine x_iload_n dX5_buy_77 rfl rfl ?_
          refine x_iload_n dX5_buy_78 rfl rfl ?_
          refine x_imul dX5_buy_79 ?_
          refine x_val (pk_mul _ _) ?_
          refine x_iadd dX5_buy_80 ?_
          refine x_istore [(5, .int ((g (1 + k)) + (nI (10 * m)))), (4, .int (nI 99)), (3, .int (nI 10)), (0, .ref a), (1, .int (nI k)), (2, .int (nI m))] dX5_buy_81 (by decide) rfl ?_
          refine x_iload_n dX5_buy_83 rfl rfl ?_
          refine x_iconst (nI 3) dX5_buy_84 (by decide) ?_
          refine x_icmp_ge 94 dX5_buy_85 (by decide) (fun e28 => ?_) (fun e28 => ?_)
          · skip
            have ne28 := e28
            rw [nI_leI (by omega) (by omega)] at ne28
            refine x_iconst (nI 1) dX5_buy_94 (by decide) ?_
            refine x_iload_n dX5_buy_95 rfl rfl ?_
            refine x_imul dX5_buy_96 ?_
            refine x_val (pk_mul _ _) ?_
            refine x_istore [(6, .int (nI (1 * m))), (5, .int ((g (1 + k)) + (nI (10 * m)))), (4, .int (nI 99)), (3, .int (nI 10)), (0, .ref a), (1, .int (nI k)), (2, .int (nI m))] dX5_buy_97 (by decide) rfl ?_
            refine x_iload dX5_buy_99 rfl ?_
            refine x_iload dX5_buy_101 rfl ?_
            refine x_icmp_le 115 dX5_buy_103 (by decide) (fun e29 => ?_) (fun e29 => ?_)
            · skip
              refine x_iload dX5_buy_115 rfl ?_
              refine x_aload_n dX5_buy_117 rfl rfl ?_
              refine tg_g T (.inl q2082) dX5_buy_118 ?_
              refine x_bipush (nI 6) dX5_buy_121 (by decide) ?_
              refine tld1 T rfl (by omega) dX5_buy_123 ?_
              refine x_icmp_le 144 dX5_buy_124 (by decide) (fun e30 => ?_) (fun e30 => ?_)
              · skip
                refine x_aload_n dX5_buy_144 rfl rfl ?_
                refine x_aload_n dX5_buy_145 rfl rfl ?_
                refine tg_g T (.inl q2082) dX5_buy_146 ?_
                refine x_cVV (t_keepsF T VO) okX5_keeps clX5 q2167 q2169 qs25 dX5_buy_149 (Or.inl T.1) rfl rfl (by decide) (Nat.zero_le _) (Nat.zero_le _) (Nat.le_of_ble_eq_true rfl) (fun _ => ?_)
                refine x_aload_n dX5_buy_152 rfl rfl ?_
                refine tg_g T (.inl q2082) dX5_buy_153 ?_
                refine x_bipush (nI 6) dX5_buy_156 (by decide) ?_
                refine x_dup2 dX5_buy_158 rfl rfl ?_
                refine tld1 T rfl (by omega) dX5_buy_159 ?_
                refine x_iload dX5_buy_160 rfl ?_
                refine x_isub dX5_buy_162 ?_
                refine tst1 T rfl (by omega) dX5_buy_163 ?_
                refine x_aload_n dX5_buy_164 rfl rfl ?_
                refine tg_g T (.inl q2082) dX5_buy_165 ?_
                refine x_iconst (nI 1) dX5_buy_168 (by decide) ?_
                refine x_iload_n dX5_buy_169 rfl rfl ?_
                refine x_iadd dX5_buy_170 ?_
                refine x_val (nI_add _ _) ?_
                refine x_iload dX5_buy_171 rfl ?_
                refine tst1 T rfl (by omega) dX5_buy_173 ?_
                refine x_iload dX5_buy_174 rfl ?_
                refine x_iret rfl dX5_buy_176 ?_
                rw [show sp_buy g (nI k) (nI m) = okR ((g (1 + k)) + (nI (10 * m))) (upd (upd g 6 ((g 6) - (nI (1 * m)))) (1 + k) ((g (1 + k)) + (nI (10 * m)))) from by simp_all [sp_buy, ← pk_mul, ← nI_add, nIl, ixl, nle_i, nlt_i]]
                exact ⟨rfl, by simp only [twR, upd_uu]; try rfl⟩
              · skip
                refine x_aload_n dX5_buy_127 rfl rfl ?_
                refine x_iconst (nI 2) dX5_buy_128 (by decide) ?_
                refine x_iconst (nI 5) dX5_buy_129 (by decide) ?_
                refine x_iload dX5_buy_130 rfl ?_
                refine x_aload_n dX5_buy_132 rfl rfl ?_
                refine tg_g T (.inl q2082) dX5_buy_133 ?_
                refine x_bipush (nI 6) dX5_buy_136 (by decide) ?_
                refine tld1 T rfl (by omega) dX5_buy_138 ?_
                refine x_isub dX5_buy_139 ?_
                refine x_cVI (t_refuses T) okX5_refuses clX5 q2163 q2165 qs24 dX5_buy_140 (Or.inl T.1) rfl rfl (by decide) (Nat.zero_le _) (Nat.zero_le _) (Nat.le_of_ble_eq_true rfl) (fun _ => ?_)
                refine x_iret rfl dX5_buy_143 ?_
                rw [show sp_buy g (nI k) (nI m) = refR (nI 5) ((nI (1 * m)) - (g 6)) g from by simp_all [sp_buy, ← pk_mul, ← nI_add, nIl, ixl, nle_i, nlt_i]]
                exact ⟨rfl, by simp only [twR, upd_uu]; try rfl⟩
            · skip
              refine x_aload_n dX5_buy_106 rfl rfl ?_
              refine x_iconst (nI 2) dX5_buy_107 (by decide) ?_
              refine x_iconst (nI 1) dX5_buy_108 (by decide) ?_
              refine x_iload dX5_buy_109 rfl ?_
              refine x_cVI (t_refuses T) okX5_refuses clX5 q2163 q2165 qs24 dX5_buy_111 (Or.inl T.1) rfl rfl (by decide) (Nat.zero_le _) (Nat.zero_le _) (Nat.le_of_ble_eq_true rfl) (fun _ => ?_)
              refine x_iret rfl dX5_buy_114 ?_
              rw [show sp_buy g (nI k) (nI m) = refR (nI 1) (nI 99) g from by simp_all [sp_buy, ← pk_mul, ← nI_add, nIl, ixl, nle_i, nlt_i]]
              exact ⟨rfl, by simp only [twR, upd_uu]; try rfl⟩
          · skip
            have ne28 := e28
            rw [nI_leI (by omega) (by omega)] at ne28
            refine x_iload_n dX5_buy_88 rfl rfl ?_
            refine x_iconst (nI 1) dX5_buy_89 (by decide) ?_
            refine x_iadd dX5_buy_90 ?_
            refine x_val (nI_add _ _) ?_
            refine x_goto 95 dX5_buy_91 (by decide) ?_
            refine x_iload_n dX5_buy_95 rfl rfl ?_
            refine x_imul dX5_buy_96 ?_
            refine x_val (pk_mul _ _) ?_
            refine x_istore [(6, .int (nI ((k + 1) * m))), (5, .int ((g (1 + k)) + (nI (10 * m)))), (4, .int (nI 99)), (3, .int (nI 10)), (0, .ref a), (1, .int (nI k)), (2, .int (nI m))] dX5_buy_97 (by decide) rfl ?_
            refine x_iload dX5_buy_99 rfl ?_
            refine x_iload dX5_buy_101 rfl ?_
            refine x_icmp_le 115 dX5_buy_103 (by decide) (fun e31 => ?_) (fun e31 => ?_)
            · skip
              refine x_iload dX5_buy_115 rfl ?_
              refine x_aload_n dX5_buy_117 rfl rfl ?_
              refine tg_g T (.inl q2082) dX5_buy_118 ?_
              refine x_bipush (nI 6) dX5_buy_121 (by decide) ?_
              refine tld1 T rfl (by omega) dX5_buy_123 ?_
              refine x_icmp_le 144 dX5_buy_124 (by decide) (fun e32 => ?_) (fun e32 => ?_)
              · skip
                refine x_aload_n dX5_buy_144 rfl rfl ?_
                refine x_aload_n dX5_buy_145 rfl rfl ?_
                refine tg_g T (.inl q2082) dX5_buy_146 ?_
                refine x_cVV (t_keepsF T VO) okX5_keeps clX5 q2167 q2169 qs25 dX5_buy_149 (Or.inl T.1) rfl rfl (by decide) (Nat.zero_le _) (Nat.zero_le _) (Nat.le_of_ble_eq_true rfl) (fun _ => ?_)
                refine x_aload_n dX5_buy_152 rfl rfl ?_
                refine tg_g T (.inl q2082) dX5_buy_153 ?_
                refine x_bipush (nI 6) dX5_buy_156 (by decide) ?_
                refine x_dup2 dX5_buy_158 rfl rfl ?_
                refine tld1 T rfl (by omega) dX5_buy_159 ?_
                refine x_iload dX5_buy_160 rfl ?_
                refine x_isub dX5_buy_162 ?_
                refine tst1 T rfl (by omega) dX5_buy_163 ?_
                refine x_aload_n dX5_buy_164 rfl rfl ?_
                refine tg_g T (.inl q2082) dX5_buy_165 ?_
                refine x_iconst (nI 1) dX5_buy_168 (by decide) ?_
                refine x_iload_n dX5_buy_169 rfl rfl ?_
                refine x_iadd dX5_buy_170 ?_
                refine x_val (nI_add _ _) ?_
                refine x_iload dX5_buy_171 rfl ?_
                refine tst1 T rfl (by omega) dX5_buy_173 ?_
                refine x_iload dX5_buy_174 rfl ?_
                refine x_iret rfl dX5_buy_176 ?_
                rw [show sp_buy g (nI k) (nI m) = okR ((g (1 + k)) + (nI (10 * m))) (upd (upd g 6 ((g 6) - (nI ((k + 1) * m)))) (1 + k) ((g (1 + k)) + (nI (10 * m)))) from by simp_all [sp_buy, ← pk_mul, ← nI_add, nIl, ixl, nle_i, nlt_i]]
                exact ⟨rfl, by simp only [twR, upd_uu]; try rfl⟩
              · skip
                refine x_aload_n dX5_buy_127 rfl rfl ?_
                refine x_iconst (nI 2) dX5_buy_128 (by decide) ?_
                refine x_iconst (nI 5) dX5_buy_129 (by decide) ?_
                refine x_iload dX5_buy_130 rfl ?_
                refine x_aload_n dX5_buy_132 rfl rfl ?_
                refine tg_g T (.inl q2082) dX5_buy_133 ?_
                refine x_bipush (nI 6) dX5_buy_136 (by decide) ?_
                refine tld1 T rfl (by omega) dX5_buy_138 ?_
                refine x_isub dX5_buy_139 ?_
                refine x_cVI (t_refuses T) okX5_refuses clX5 q2163 q2165 qs24 dX5_buy_140 (Or.inl T.1) rfl rfl (by decide) (Nat.zero_le _) (Nat.zero_le _) (Nat.le_of_ble_eq_true rfl) (fun _ => ?_)
                refine x_iret rfl dX5_buy_143 ?_
                rw [show sp_buy g (nI k) (nI m) = refR (nI 5) ((nI ((k + 1) * m)) - (g 6)) g from by simp_all [sp_buy, ← pk_mul, ← nI_add, nIl, ixl, nle_i, nlt_i]]
                exact ⟨rfl, by simp only [twR, upd_uu]; try rfl⟩
            · skip
              refine x_aload_n dX5_buy_106 rfl rfl ?_
              refine x_iconst (nI 2) dX5_buy_107 (by decide) ?_
              refine x_iconst (nI 1) dX5_buy_108 (by decide) ?_
              refine x_iload dX5_buy_109 rfl ?_
              refine x_cVI (t_refuses T) okX5_refuses clX5 q2163 q2165 qs24 dX5_buy_111 (Or.inl T.1) rfl rfl (by decide) (Nat.zero_le _) (Nat.zero_le _) (Nat.le_of_ble_eq_true rfl) (fun _ => ?_)
              refine x_iret rfl dX5_buy_114 ?_
              rw [show sp_buy g (nI k) (nI m) = refR (nI 1) (nI 99) g from by simp_all [sp_buy, ← pk_mul, ← nI_add, nIl, ixl, nle_i, nlt_i]]
              exact ⟨rfl, by simp only [twR, upd_uu]; try rfl⟩
        · skip
          have ne27 := e27
          rw [nI_leI (by omega) (by omega)] at ne27
          refine x_sipush (nI 500) dX5_buy_59 (by decide) ?_
          refine x_goto 67 dX5_buy_62 (by decide) ?_
          refine x_istore [(4, .int (nI 500)), (3, .int (nI 10)), (0, .ref a), (1, .int (nI k)), (2, .int (nI m))] dX5_buy_67 (by decide) rfl ?_
          refine x_aload_n dX5_buy_69 rfl rfl ?_
          refine tg_g T (.inl q2082) dX5_buy_70 ?_
          refine x_iconst (nI 1) dX5_buy_73 (by decide) ?_
          refine x_iload_n dX5_buy_74 rfl rfl ?_
          refine x_iadd dX5_buy_75 ?_
          refine x_val (nI_add _ _) ?_
          refine tld1 T rfl (by omega) dX5_buy_76 ?_
          refine x_iload_n dX5_buy_77 rfl rfl ?_
          refine x_iload_n dX5_buy_78 rfl rfl ?_
          refine x_imul dX5_buy_79 ?_
          refine x_val (pk_mul _ _) ?_
          refine x_iadd dX5_buy_80 ?_
          refine x_istore [(5, .int ((g (1 + k)) + (nI (10 * m)))), (4, .int (nI 500)), (3, .int (nI 10)), (0, .ref a), (1, .int (nI k)), (2, .int (nI m))] dX5_buy_81 (by decide) rfl ?_
          refine x_iload_n dX5_buy_83 rfl rfl ?_
          refine x_iconst (nI 3) dX5_buy_84 (by decide) ?_
          refine x_icmp_ge 94 dX5_buy_85 (by decide) (fun e33 => ?_) (fun e33 => ?_)
          · skip
            have ne33 := e33
            rw [nI_leI (by omega) (by omega)] at ne33
            refine x_iconst (nI 1) dX5_buy_94 (by decide) ?_
            refine x_iload_n dX5_buy_95 rfl rfl ?_
            refine x_imul dX5_buy_96 ?_
            refine x_val (pk_mul _ _) ?_
            refine x_istore [(6, .int (nI (1 * m))), (5, .int ((g (1 + k)) + (nI (10 * m)))), (4, .int (nI 500)), (3, .int (nI 10)), (0, .ref a), (1, .int (nI k)), (2, .int (nI m))] dX5_buy_97 (by decide) rfl ?_
            refine x_iload dX5_buy_99 rfl ?_
            refine x_iload dX5_buy_101 rfl ?_
            refine x_icmp_le 115 dX5_buy_103 (by decide) (fun e34 => ?_) (fun e34 => ?_)
            · skip
              refine x_iload dX5_buy_115 rfl ?_
              refine x_aload_n dX5_buy_117 rfl rfl ?_
              refine tg_g T (.inl q2082) dX5_buy_118 ?_
              refine x_bipush (nI 6) dX5_buy_121 (by decide) ?_
              refine tld1 T rfl (by omega) dX5_buy_123 ?_
              refine x_icmp_le 144 dX5_buy_124 (by decide) (fun e35 => ?_) (fun e35 => ?_)
              · skip
                refine x_aload_n dX5_buy_144 rfl rfl ?_
                refine x_aload_n dX5_buy_145 rfl rfl ?_
                refine tg_g T (.inl q2082) dX5_buy_146 ?_
                refine x_cVV (t_keepsF T VO) okX5_keeps clX5 q2167 q2169 qs25 dX5_buy_149 (Or.inl T.1) rfl rfl (by decide) (Nat.zero_le _) (Nat.zero_le _) (Nat.le_of_ble_eq_true rfl) (fun _ => ?_)
                refine x_aload_n dX5_buy_152 rfl rfl ?_
                refine tg_g T (.inl q2082) dX5_buy_153 ?_
                refine x_bipush (nI 6) dX5_buy_156 (by decide) ?_
                refine x_dup2 dX5_buy_158 rfl rfl ?_
                refine tld1 T rfl (by omega) dX5_buy_159 ?_
                refine x_iload dX5_buy_160 rfl ?_
                refine x_isub dX5_buy_162 ?_
                refine tst1 T rfl (by omega) dX5_buy_163 ?_
                refine x_aload_n dX5_buy_164 rfl rfl ?_
                refine tg_g T (.inl q2082) dX5_buy_165 ?_
                refine x_iconst (nI 1) dX5_buy_168 (by decide) ?_
                refine x_iload_n dX5_buy_169 rfl rfl ?_
                refine x_iadd dX5_buy_170 ?_
                refine x_val (nI_add _ _) ?_
                refine x_iload dX5_buy_171 rfl ?_
                refine tst1 T rfl (by omega) dX5_buy_173 ?_
                refine x_iload dX5_buy_174 rfl ?_
                refine x_iret rfl dX5_buy_176 ?_
                rw [show sp_buy g (nI k) (nI m) = okR ((g (1 + k)) + (nI (10 * m))) (upd (upd g 6 ((g 6) - (nI (1 * m)))) (1 + k) ((g (1 + k)) + (nI (10 * m)))) from by simp_all [sp_buy, ← pk_mul, ← nI_add, nIl, ixl, nle_i, nlt_i]]
                exact ⟨rfl, by simp only [twR, upd_uu]; try rfl⟩
              · skip
                refine x_aload_n dX5_buy_127 rfl rfl ?_
                refine x_iconst (nI 2) dX5_buy_128 (by decide) ?_
                refine x_iconst (nI 5) dX5_buy_129 (by decide) ?_
                refine x_iload dX5_buy_130 rfl ?_
                refine x_aload_n dX5_buy_132 rfl rfl ?_
                refine tg_g T (.inl q2082) dX5_buy_133 ?_
                refine x_bipush (nI 6) dX5_buy_136 (by decide) ?_
                refine tld1 T rfl (by omega) dX5_buy_138 ?_
                refine x_isub dX5_buy_139 ?_
                refine x_cVI (t_refuses T) okX5_refuses clX5 q2163 q2165 qs24 dX5_buy_140 (Or.inl T.1) rfl rfl (by decide) (Nat.zero_le _) (Nat.zero_le _) (Nat.le_of_ble_eq_true rfl) (fun _ => ?_)
                refine x_iret rfl dX5_buy_143 ?_
                rw [show sp_buy g (nI k) (nI m) = refR (nI 5) ((nI (1 * m)) - (g 6)) g from by simp_all [sp_buy, ← pk_mul, ← nI_add, nIl, ixl, nle_i, nlt_i]]
                exact ⟨rfl, by simp only [twR, upd_uu]; try rfl⟩
            · skip
              refine x_aload_n dX5_buy_106 rfl rfl ?_
              refine x_iconst (nI 2) dX5_buy_107 (by decide) ?_
              refine x_iconst (nI 1) dX5_buy_108 (by decide) ?_
              refine x_iload dX5_buy_109 rfl ?_
              refine x_cVI (t_refuses T) okX5_refuses clX5 q2163 q2165 qs24 dX5_buy_111 (Or.inl T.1) rfl rfl (by decide) (Nat.zero_le _) (Nat.zero_le _) (Nat.le_of_ble_eq_true rfl) (fun _ => ?_)
              refine x_iret rfl dX5_buy_114 ?_
              rw [show sp_buy g (nI k) (nI m) = refR (nI 1) (nI 500) g from by simp_all [sp_buy, ← pk_mul, ← nI_add, nIl, ixl, nle_i, nlt_i]]
              exact ⟨rfl, by simp only [twR, upd_uu]; try rfl⟩
          · skip
            have ne33 := e33
            rw [nI_leI (by omega) (by omega)] at ne33
            refine x_iload_n dX5_buy_88 rfl rfl ?_
            refine x_iconst (nI 1) dX5_buy_89 (by decide) ?_
            refine x_iadd dX5_buy_90 ?_
            refine x_val (nI_add _ _) ?_
            refine x_goto 95 dX5_buy_91 (by decide) ?_
            refine x_iload_n dX5_buy_95 rfl rfl ?_
            refine x_imul dX5_buy_96 ?_
            refine x_val (pk_mul _ _) ?_
            refine x_istore [(6, .int (nI ((k + 1) * m))), (5, .int ((g (1 + k)) + (nI (10 * m)))), (4, .int (nI 500)), (3, .int (nI 10)), (0, .ref a), (1, .int (nI k)), (2, .int (nI m))] dX5_buy_97 (by decide) rfl ?_
            refine x_iload dX5_buy_99 rfl ?_
            refine x_iload dX5_buy_101 rfl ?_
            refine x_icmp_le 115 dX5_buy_103 (by decide) (fun e36 => ?_) (fun e36 => ?_)
            · skip
              refine x_iload dX5_buy_115 rfl ?_
              refine x_aload_n dX5_buy_117 rfl rfl ?_
              refine tg_g T (.inl q2082) dX5_buy_118 ?_
              refine x_bipush (nI 6) dX5_buy_121 (by decide) ?_
              refine tld1 T rfl (by omega) dX5_buy_123 ?_
              refine x_icmp_le 144 dX5_buy_124 (by decide) (fun e37 => ?_) (fun e37 => ?_)
              · skip
                refine x_aload_n dX5_buy_144 rfl rfl ?_
                refine x_aload_n dX5_buy_145 rfl rfl ?_
                refine tg_g T (.inl q2082) dX5_buy_146 ?_
                refine x_cVV (t_keepsF T VO) okX5_keeps clX5 q2167 q2169 qs25 dX5_buy_149 (Or.inl T.1) rfl rfl (by decide) (Nat.zero_le _) (Nat.zero_le _) (Nat.le_of_ble_eq_true rfl) (fun _ => ?_)
                refine x_aload_n dX5_buy_152 rfl rfl ?_
                refine tg_g T (.inl q2082) dX5_buy_153 ?_
                refine x_bipush (nI 6) dX5_buy_156 (by decide) ?_
                refine x_dup2 dX5_buy_158 rfl rfl ?_
                refine tld1 T rfl (by omega) dX5_buy_159 ?_
                refine x_iload dX5_buy_160 rfl ?_
                refine x_isub dX5_buy_162 ?_
                refine tst1 T rfl (by omega) dX5_buy_163 ?_
                refine x_aload_n dX5_buy_164 rfl rfl ?_
                refine tg_g T (.inl q2082) dX5_buy_165 ?_
                refine x_iconst (nI 1) dX5_buy_168 (by decide) ?_
                refine x_iload_n dX5_buy_169 rfl rfl ?_
                refine x_iadd dX5_buy_170 ?_
                refine x_val (nI_add _ _) ?_
                refine x_iload dX5_buy_171 rfl ?_
                refine tst1 T rfl (by omega) dX5_buy_173 ?_
                refine x_iload dX5_buy_174 rfl ?_
                refine x_iret rfl dX5_buy_176 ?_
                rw [show sp_buy g (nI k) (nI m) = okR ((g (1 + k)) + (nI (10 * m))) (upd (upd g 6 ((g 6) - (nI ((k + 1) * m)))) (1 + k) ((g (1 + k)) + (nI (10 * m)))) from by simp_all [sp_buy, ← pk_mul, ← nI_add, nIl, ixl, nle_i, nlt_i]]
                exact ⟨rfl, by simp only [twR, upd_uu]; try rfl⟩
              · skip
                refine x_aload_n dX5_buy_127 rfl rfl ?_
                refine x_iconst (nI 2) dX5_buy_128 (by decide) ?_
                refine x_iconst (nI 5) dX5_buy_129 (by decide) ?_
                refine x_iload dX5_buy_130 rfl ?_
                refine x_aload_n dX5_buy_132 rfl rfl ?_
                refine tg_g T (.inl q2082) dX5_buy_133 ?_
                refine x_bipush (nI 6) dX5_buy_136 (by decide) ?_
                refine tld1 T rfl (by omega) dX5_buy_138 ?_
                refine x_isub dX5_buy_139 ?_
                refine x_cVI (t_refuses T) okX5_refuses clX5 q2163 q2165 qs24 dX5_buy_140 (Or.inl T.1) rfl rfl (by decide) (Nat.zero_le _) (Nat.zero_le _) (Nat.le_of_ble_eq_true rfl) (fun _ => ?_)
                refine x_iret rfl dX5_buy_143 ?_
                rw [show sp_buy g (nI k) (nI m) = refR (nI 5) ((nI ((k + 1) * m)) - (g 6)) g from by simp_all [sp_buy, ← pk_mul, ← nI_add, nIl, ixl, nle_i, nlt_i]]
                exact ⟨rfl, by simp only [twR, upd_uu]; try rfl⟩
            · skip
              refine x_aload_n dX5_buy_106 rfl rfl ?_
              refine x_iconst (nI 2) dX5_buy_107 (by decide) ?_
              refine x_iconst (nI 1) dX5_buy_108 (by decide) ?_
              refine x_iload dX5_buy_109 rfl ?_
              refine x_cVI (t_refuses T) okX5_refuses clX5 q2163 q2165 qs24 dX5_buy_111 (Or.inl T.1) rfl rfl (by decide) (Nat.zero_le _) (Nat.zero_le _) (Nat.le_of_ble_eq_true rfl) (fun _ => ?_)
              refine x_iret rfl dX5_buy_114 ?_
              rw [show sp_buy g (nI k) (nI m) = refR (nI 1) (nI 500) g from by simp_all [sp_buy, ← pk_mul, ← nI_add, nIl, ixl, nle_i, nlt_i]]
              exact ⟨rfl, by simp only [twR, upd_uu]; try rfl⟩
theorem t_order {G : GG} {h : AH} {a : Nat} {g : Nat → Int32} {S : Nat → Nat → Int32} {V : Nat → Int32} (T : Tw h a) (O : GOk g) (VO : VOk V) {x : Int32} {y : Int32} : Cal G kX5_order 2 0 0 [.ref a, .int x, .int y] (twh h a g S V) (rI (sp_order g x y).2.1 (twR h a g S V (nI 0) (nI 1) (nI 2) (sp_order g x y))) := by
  refine Cal.of (by decide +kernel) (Nat.le_of_ble_eq_true rfl) (fun c => ?_)
  have hb0 := O.b
  have hj0 := O.j
  have ho0 := O.o
  refine x_aload_n dX5_order_0 rfl rfl ?_
  refine x_iload_n dX5_order_1 rfl rfl ?_
  refine x_if_lt 20 dX5_order_2 (by decide) (fun e1 => ?_) (fun e1 => ?_)
  · skip
    refine x_iconst (nI 1) dX5_order_20 (by decide) ?_
    refine x_cVI (t_fails1 T) okX5_fails clX5 q2159 q2161 qs23 dX5_order_21 (Or.inl T.1) rfl rfl (by decide) (Nat.zero_le _) (Nat.zero_le _) (Nat.le_of_ble_eq_true rfl) (fun _ => ?_)
    refine x_if_eq 29 dX5_order_24 (by decide) (fun z => False.elim (by revert z; decide)) (fun _ => ?_)
    refine x_iconst (nI 0) dX5_order_27 (by decide) ?_
    refine x_iret rfl dX5_order_28 ?_
    rw [show sp_order g x y = iaeR g from by simp_all [sp_order, ← pk_mul, ← nI_add, nIl, ixl, nle_i, nlt_i, orderG]]
    exact ⟨rfl, by simp only [twR, upd_uu]; try rfl⟩
  · skip
    refine x_iload_n dX5_order_5 rfl rfl ?_
    refine x_iload_n dX5_order_6 rfl rfl ?_
    refine x_icmp_gt 20 dX5_order_7 (by decide) (fun e2 => ?_) (fun e2 => ?_)
    · skip
      refine x_iconst (nI 1) dX5_order_20 (by decide) ?_
      refine x_cVI (t_fails1 T) okX5_fails clX5 q2159 q2161 qs23 dX5_order_21 (Or.inl T.1) rfl rfl (by decide) (Nat.zero_le _) (Nat.zero_le _) (Nat.le_of_ble_eq_true rfl) (fun _ => ?_)
      refine x_if_eq 29 dX5_order_24 (by decide) (fun z => False.elim (by revert z; decide)) (fun _ => ?_)
      refine x_iconst (nI 0) dX5_order_27 (by decide) ?_
      refine x_iret rfl dX5_order_28 ?_
      rw [show sp_order g x y = iaeR g from by simp_all [sp_order, ← pk_mul, ← nI_add, nIl, ixl, nle_i, nlt_i, orderG]]
      exact ⟨rfl, by simp only [twR, upd_uu]; try rfl⟩
    · skip
      refine x_iload_n dX5_order_10 rfl rfl ?_
      refine x_bipush (nI 30) dX5_order_11 (by decide) ?_
      refine x_icmp_gt 20 dX5_order_13 (by decide) (fun e3 => ?_) (fun e3 => ?_)
      · skip
        refine x_iconst (nI 1) dX5_order_20 (by decide) ?_
        refine x_cVI (t_fails1 T) okX5_fails clX5 q2159 q2161 qs23 dX5_order_21 (Or.inl T.1) rfl rfl (by decide) (Nat.zero_le _) (Nat.zero_le _) (Nat.le_of_ble_eq_true rfl) (fun _ => ?_)
        refine x_if_eq 29 dX5_order_24 (by decide) (fun z => False.elim (by revert z; decide)) (fun _ => ?_)
        refine x_iconst (nI 0) dX5_order_27 (by decide) ?_
        refine x_iret rfl dX5_order_28 ?_
        rw [show sp_order g x y = iaeR g from by simp_all [sp_order, ← pk_mul, ← nI_add, nIl, ixl, nle_i, nlt_i, orderG]]
        exact ⟨rfl, by simp only [twR, upd_uu]; try rfl⟩
      · skip
        refine x_iconst (nI 0) dX5_order_16 (by decide) ?_
        refine x_goto 21 dX5_order_17 (by decide) ?_
        refine x_cVI (t_fails0 T) okX5_fails clX5 q2159 q2161 qs23 dX5_order_21 (Or.inl T.1) rfl rfl (by decide) (Nat.zero_le _) (Nat.zero_le _) (Nat.le_of_ble_eq_true rfl) (fun _ => ?_)
        refine x_if_eq 29 dX5_order_24 (by decide) (fun _ => ?_) (fun z => False.elim (by revert z; decide))
        refine x_aload_n dX5_order_29 rfl rfl ?_
        refine tg_g T (.inl q2082) dX5_order_30 ?_
        refine x_bipush (nI 9) dX5_order_33 (by decide) ?_
        refine tld1 T rfl (by omega) dX5_order_35 ?_
        refine x_bipush (nI 8) dX5_order_36 (by decide) ?_
        refine x_icmp_ne 50 dX5_order_38 (by decide) (fun e4 => ?_) (fun e4 => ?_)
        · skip
          refine x_aload_n dX5_order_50 rfl rfl ?_
          refine x_aload_n dX5_order_51 rfl rfl ?_
          refine tg_g T (.inl q2082) dX5_order_52 ?_
          refine x_cVV (t_keepsF T VO) okX5_keeps clX5 q2167 q2169 qs25 dX5_order_55 (Or.inl T.1) rfl rfl (by decide) (Nat.zero_le _) (Nat.zero_le _) (Nat.le_of_ble_eq_true rfl) (fun _ => ?_)
          refine x_aload_n dX5_order_58 rfl rfl ?_
          refine tg_g T (.inl q2082) dX5_order_59 ?_
          refine x_bipush (nI 9) dX5_order_62 (by decide) ?_
          refine tld1 T rfl (by omega) dX5_order_64 ?_
          have hno : g 9 = nI (nOr g) ∧ nOr g < 8 := ⟨ho0.1, lt_many ho0.1 ho0.2 (by assumption)⟩
          refine x_val hno.1 ?_
          refine x_istore_n [(3, .int (nI (nOr g))), (0, .ref a), (1, .int x), (2, .int y)] dX5_order_65 rfl (by decide) rfl ?_
          refine x_aload_n dX5_order_66 rfl rfl ?_
          refine tg_g T (.inl q2082) dX5_order_67 ?_
          refine x_bipush (nI 9) dX5_order_70 (by decide) ?_
          refine x_dup2 dX5_order_72 rfl rfl ?_
          refine tld1 T rfl (by omega) dX5_order_73 ?_
          refine x_iconst (nI 1) dX5_order_74 (by decide) ?_
          refine x_iadd dX5_order_75 ?_
          refine tst1 T rfl (by omega) dX5_order_76 ?_
          refine x_aload_n dX5_order_77 rfl rfl ?_
          refine tg_g T (.inl q2082) dX5_order_78 ?_
          refine x_sipush (nI 189) dX5_order_81 (by decide) ?_
          refine x_iconst (nI 4) dX5_order_84 (by decide) ?_
          refine x_iload_n dX5_order_85 rfl rfl ?_
          refine x_imul dX5_order_86 ?_
          refine x_val (pk_mul _ _) ?_
          refine x_iadd dX5_order_87 ?_
          refine x_val (nI_add _ _) ?_
          refine x_iload_n dX5_order_88 rfl rfl ?_
          refine tst1 T rfl (by omega) dX5_order_89 ?_
          refine x_aload_n dX5_order_90 rfl rfl ?_
          refine tg_g T (.inl q2082) dX5_order_91 ?_
          refine x_sipush (nI 189) dX5_order_94 (by decide) ?_
          refine x_iconst (nI 4) dX5_order_97 (by decide) ?_
          refine x_iload_n dX5_order_98 rfl rfl ?_
          refine x_imul dX5_order_99 ?_
          refine x_val (pk_mul _ _) ?_
          refine x_iadd dX5_order_100 ?_
          refine x_val (nI_add _ _) ?_
          refine x_iconst (nI 1) dX5_order_101 (by decide) ?_
          refine x_iadd dX5_order_102 ?_
          refine x_val (nI_add _ _) ?_
          refine x_iload_n dX5_order_103 rfl rfl ?_
          refine tst1 T rfl (by omega) dX5_order_104 ?_
          refine x_aload_n dX5_order_105 rfl rfl ?_
          refine tg_g T (.inl q2082) dX5_order_106 ?_
          refine x_sipush (nI 189) dX5_order_109 (by decide) ?_
          refine x_iconst (nI 4) dX5_order_112 (by decide) ?_
          refine x_iload_n dX5_order_113 rfl rfl ?_
          refine x_imul dX5_order_114 ?_
          refine x_val (pk_mul _ _) ?_
          refine x_iadd dX5_order_115 ?_
          refine x_val (nI_add _ _) ?_
          refine x_iconst (nI 2) dX5_order_116 (by decide) ?_
          refine x_iadd dX5_order_117 ?_
          refine x_val (nI_add _ _) ?_
          refine x_iconst (nI 0) dX5_order_118 (by decide) ?_
          refine tst1 T rfl (by omega) dX5_order_119 ?_
          refine x_aload_n dX5_order_120 rfl rfl ?_
          refine tg_g T (.inl q2082) dX5_order_121 ?_
          refine x_sipush (nI 189) dX5_order_124 (by decide) ?_
          refine x_iconst (nI 4) dX5_order_127 (by decide) ?_
          refine x_iload_n dX5_order_128 rfl rfl ?_
          refine x_imul dX5_order_129 ?_
          refine x_val (pk_mul _ _) ?_
          refine x_iadd dX5_order_130 ?_
          refine x_val (nI_add _ _) ?_
          refine x_iconst (nI 3) dX5_order_131 (by decide) ?_
          refine x_iadd dX5_order_132 ?_
          refine x_val (nI_add _ _) ?_
          refine x_iconst (-1) dX5_order_133 (by decide) ?_
          refine tst1 T rfl (by omega) dX5_order_134 ?_
          refine x_iload_n dX5_order_135 rfl rfl ?_
          refine x_iret rfl dX5_order_136 ?_
          rw [show sp_order g x y = okR (nI (nOr g)) (upd (upd (upd (upd (upd g 9 ((g 9) + (nI 1))) (189 + (4 * (nOr g))) x) ((189 + (4 * (nOr g))) + 1) y) ((189 + (4 * (nOr g))) + 2) (nI 0)) ((189 + (4 * (nOr g))) + 3) (-1)) from by simp_all [sp_order, ← pk_mul, ← nI_add, nIl, ixl, nle_i, nlt_i, orderG]]
          exact ⟨rfl, by simp only [twR, upd_uu]; try rfl⟩
        · skip
          refine x_aload_n dX5_order_41 rfl rfl ?_
          refine x_iconst (nI 2) dX5_order_42 (by decide) ?_
          refine x_iconst (nI 1) dX5_order_43 (by decide) ?_
          refine x_bipush (nI 8) dX5_order_44 (by decide) ?_
          refine x_cVI (t_refuses T) okX5_refuses clX5 q2163 q2165 qs24 dX5_order_46 (Or.inl T.1) rfl rfl (by decide) (Nat.zero_le _) (Nat.zero_le _) (Nat.le_of_ble_eq_true rfl) (fun _ => ?_)
          refine x_iret rfl dX5_order_49 ?_
          rw [show sp_order g x y = refR (nI 1) (nI 8) g from by simp_all [sp_order, ← pk_mul, ← nI_add, nIl, ixl, nle_i, nlt_i, orderG]]
          exact ⟨rfl, by simp only [twR, upd_uu]; try rfl⟩
theorem t_orderOf {G : GG} {h : AH} {a : Nat} {g : Nat → Int32} {S : Nat → Nat → Int32} {V : Nat → Int32} (T : Tw h a) (O : GOk g) {x : Int32} {y : Int32} : Cal G kX5_orderOf 2 0 0 [.ref a, .int x, .int y] (twh h a g S V) (rI (sp_orderOf g x y).2 (twQ h a g S V (sp_orderOf g x y))) := by
  refine Cal.of (by decide +kernel) (Nat.le_of_ble_eq_true rfl) (fun c => ?_)
  have hb0 := O.b
  have hj0 := O.j
  have ho0 := O.o
  refine x_aload_n dX5_orderOf_0 rfl rfl ?_
  refine x_aload_n dX5_orderOf_1 rfl rfl ?_
  refine x_iload_n dX5_orderOf_2 rfl rfl ?_
  refine x_cVI (t_isOrder T) okX5_isOrder clX5 q2310 q2312 qs43 dX5_orderOf_3 (Or.inl T.1) rfl rfl (by decide) (Nat.zero_le _) (Nat.zero_le _) (Nat.le_of_ble_eq_true rfl) (fun _ => ?_)
  refine x_if_neB 13 dX5_orderOf_6 (by decide) (fun e1 => ?_) (fun e1 => ?_)
  · skip
    obtain ⟨k, hk, rfl⟩ := inB_m O.o.1 (by omega) e1
    have xk : (nI k).toNatClampNeg = k := ix_nI (by omega)
    refine x_iload_n dX5_orderOf_13 rfl rfl ?_
    refine x_iconst (nI 0) dX5_orderOf_14 (by decide) ?_
    refine x_iconst (nI 3) dX5_orderOf_15 (by decide) ?_
    refine x_cSI t_in okX5_in q2156 q2157 dX5_orderOf_16 rfl rfl (by decide) (Nat.zero_le _) (Nat.zero_le _) (Nat.le_of_ble_eq_true rfl) (fun _ => ?_)
    refine x_if_eqB 26 dX5_orderOf_19 (by decide) (fun e2 => ?_) (fun e2 => ?_)
    · skip
      refine x_iconst (nI 2) dX5_orderOf_26 (by decide) ?_
      refine x_cVI (t_fails2 T) okX5_fails clX5 q2159 q2161 qs23 dX5_orderOf_27 (Or.inl T.1) rfl rfl (by decide) (Nat.zero_le _) (Nat.zero_le _) (Nat.le_of_ble_eq_true rfl) (fun _ => ?_)
      refine x_if_eq 37 dX5_orderOf_30 (by decide) (fun z => False.elim (by revert z; decide)) (fun _ => ?_)
      refine x_iconst (nI 0) dX5_orderOf_33 (by decide) ?_
      refine x_goto 43 dX5_orderOf_34 (by decide) ?_
      refine x_iret rfl dX5_orderOf_43 ?_
      rw [show sp_orderOf g (nI k) y = (2, nI 0) from by simp_all [sp_orderOf, ← pk_mul, ← nI_add, nIl, ixl, nle_i, nlt_i]]
      exact ⟨rfl, by simp only [twQ, upd_uu]⟩
    · skip
      obtain ⟨w, hw, rfl⟩ := inB_n (n := 3) (by decide) e2
      have xw : (nI w).toNatClampNeg = w := ix_nI (by omega)
      refine x_iconst (nI 0) dX5_orderOf_22 (by decide) ?_
      refine x_goto 27 dX5_orderOf_23 (by decide) ?_
      refine x_cVI (t_fails0 T) okX5_fails clX5 q2159 q2161 qs23 dX5_orderOf_27 (Or.inl T.1) rfl rfl (by decide) (Nat.zero_le _) (Nat.zero_le _) (Nat.le_of_ble_eq_true rfl) (fun _ => ?_)
      refine x_if_eq 37 dX5_orderOf_30 (by decide) (fun _ => ?_) (fun z => False.elim (by revert z; decide))
      refine x_aload_n dX5_orderOf_37 rfl rfl ?_
      refine x_iload_n dX5_orderOf_38 rfl rfl ?_
      refine x_iload_n dX5_orderOf_39 rfl rfl ?_
      refine x_cVI (t_ofOrder T (by omega)) okX5_ofOrder clX5 q2314 q2316 qs44 dX5_orderOf_40 (Or.inl T.1) rfl rfl (by decide) (Nat.zero_le _) (Nat.zero_le _) (Nat.le_of_ble_eq_true rfl) (fun _ => ?_)
      refine x_iret rfl dX5_orderOf_43 ?_
      rw [show sp_orderOf g (nI k) (nI w) = (0, go g k w) from by simp_all [sp_orderOf, ← pk_mul, ← nI_add, nIl, ixl, nle_i, nlt_i]]
      exact ⟨rfl, by simp only [twQ, upd_uu]⟩
  · skip
    refine x_iconst (nI 1) dX5_orderOf_9 (by decide) ?_
    refine x_goto 27 dX5_orderOf_10 (by decide) ?_
    refine x_cVI (t_fails1 T) okX5_fails clX5 q2159 q2161 qs23 dX5_orderOf_27 (Or.inl T.1) rfl rfl (by decide) (Nat.zero_le _) (Nat.zero_le _) (Nat.le_of_ble_eq_true rfl) (fun _ => ?_)
    refine x_if_eq 37 dX5_orderOf_30 (by decide) (fun z => False.elim (by revert z; decide)) (fun _ => ?_)
    refine x_iconst (nI 0) dX5_orderOf_33 (by decide) ?_
    refine x_goto 43 dX5_orderOf_34 (by decide) ?_
    refine x_iret rfl dX5_orderOf_43 ?_
    rw [show sp_orderOf g x y = (1, nI 0) from by simp_all [sp_orderOf, ← pk_mul, ← nI_add, nIl, ixl, nle_i, nlt_i]]
    exact ⟨rfl, by simp only [twQ, upd_uu]⟩
