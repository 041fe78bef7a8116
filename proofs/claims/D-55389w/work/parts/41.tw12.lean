/-! THE REFERENCE, twelfth part: carries, read; printed by tools/tw12.py -/
set_option maxRecDepth 100000
/-- what an order of a text comes to -/
def exS (g : Nat → Int32) (w x y b z : Int32) : RS :=
  if w = 103 then sp_grind g x y b z else if w = 100 then sp_dress g x else if w = 109 then sp_mix g x y else if w = 106 then sp_jar g x y else if w = 111 then sp_open g x else if w = 101 then sp_sell g x else if w = 118 then sp_serve g x else sp_rest g x
/-- its codes -/
def exC (w : Int32) : Int32 × Int32 × Int32 :=
  if w = 103 then (1, 2, 3) else if w = 100 then (1, 0, 2) else if w = 109 then (1, 2, 3) else if w = 106 then (1, 2, 3) else if w = 111 then (1, 0, 2) else if w = 101 then (1, 0, 2) else if w = 118 then (1, 0, 2) else (0, 1, 2)
def exF (F : Nat → Int32) (g : Nat → Int32) (i : Nat) : RS := exS g (F (5 * i)) (F (5 * i + 1)) (F (5 * i + 2)) (F (5 * i + 3)) (F (5 * i + 4))
theorem t_carries {G : GG} {h : AH} {a : Nat} {g : Nat → Int32} {S : Nat → Nat → Int32} {V : Nat → Int32} (T : Tw h a) (O : GOk g) (VO : VOk V) {i : Nat} (hi : i ≤ 18) : Cal G kX5_carries 6 0 0 [.ref a, .int (nI (5 * i))] (twh h a g S V) (rI (exF (S 8) g i).2.1 (twR h a g S V (exC (S 8 (5 * i))).1 (exC (S 8 (5 * i))).2.1 (exC (S 8 (5 * i))).2.2 (exF (S 8) g i))) := by
  refine Cal.of (by decide +kernel) (Nat.le_of_ble_eq_true rfl) (fun c => ?_)
  refine x_aload_n dX5_carries_0 rfl rfl ?_
  refine tg_told T (.inl q2100) dX5_carries_1 ?_
  refine x_iload_n dX5_carries_4 rfl rfl ?_
  refine tld8 T rfl (by omega) dX5_carries_5 ?_
  by_cases ek100 : (S 8) (5 * i) = nI 100
  · skip
    refine x_val ek100 ?_
    refine x_tableIn 133 dX5_carries_6 (by decide) (by decide) rfl (by decide) ?_
    refine x_aload_n dX5_carries_133 rfl rfl ?_
    refine x_aload_n dX5_carries_134 rfl rfl ?_
    refine tg_told T (.inl q2100) dX5_carries_135 ?_
    refine x_iload_n dX5_carries_138 rfl rfl ?_
    refine x_iconst (nI 1) dX5_carries_139 (by decide) ?_
    refine x_iadd dX5_carries_140 ?_
    refine x_val (nI_add _ _) ?_
    refine tld8 T rfl (by omega) dX5_carries_141 ?_
    refine x_cVI (t_dress T O VO) okX5_dress clX5 q2469 q2186 q2187 dX5_carries_142 (Or.inl T.1) rfl rfl (by decide) (Nat.zero_le _) (Nat.zero_le _) (Nat.le_of_ble_eq_true rfl) (fun _ => ?_)
    refine x_iret rfl dX5_carries_145 ?_
    have hx : exF (S 8) g i = (sp_dress g ((S 8) ((5 * i) + 1))) := by unfold exF exS; rw [if_neg (show ¬ S 8 (5 * i) = 103 from (by rw [show S 8 (5 * i) = nI 100 from ek100]; decide)), if_pos (show S 8 (5 * i) = 100 from ek100)]
    have hc : exC (S 8 (5 * i)) = (1, 0, 2) := by unfold exC; rw [if_neg (show ¬ S 8 (5 * i) = 103 from (by rw [show S 8 (5 * i) = nI 100 from ek100]; decide)), if_pos (show S 8 (5 * i) = 100 from ek100)]
    rw [hx, hc]
    exact ⟨rfl, rfl⟩
  by_cases ek101 : (S 8) (5 * i) = nI 101
  · skip
    refine x_val ek101 ?_
    refine x_tableIn 201 dX5_carries_6 (by decide) (by decide) rfl (by decide) ?_
    refine x_aload_n dX5_carries_201 rfl rfl ?_
    refine x_aload_n dX5_carries_202 rfl rfl ?_
    refine tg_told T (.inl q2100) dX5_carries_203 ?_
    refine x_iload_n dX5_carries_206 rfl rfl ?_
    refine x_iconst (nI 1) dX5_carries_207 (by decide) ?_
    refine x_iadd dX5_carries_208 ?_
    refine x_val (nI_add _ _) ?_
    refine tld8 T rfl (by omega) dX5_carries_209 ?_
    refine x_cVI (t_sell T O VO) okX5_sell clX5 q2473 q2268 q2269 dX5_carries_210 (Or.inl T.1) rfl rfl (by decide) (Nat.zero_le _) (Nat.zero_le _) (Nat.le_of_ble_eq_true rfl) (fun _ => ?_)
    refine x_iret rfl dX5_carries_213 ?_
    have hx : exF (S 8) g i = (sp_sell g ((S 8) ((5 * i) + 1))) := by unfold exF exS; rw [if_neg (show ¬ S 8 (5 * i) = 103 from (by rw [show S 8 (5 * i) = nI 101 from ek101]; decide)), if_neg (show ¬ S 8 (5 * i) = 100 from (by rw [show S 8 (5 * i) = nI 101 from ek101]; decide)), if_neg (show ¬ S 8 (5 * i) = 109 from (by rw [show S 8 (5 * i) = nI 101 from ek101]; decide)), if_neg (show ¬ S 8 (5 * i) = 106 from (by rw [show S 8 (5 * i) = nI 101 from ek101]; decide)), if_neg (show ¬ S 8 (5 * i) = 111 from (by rw [show S 8 (5 * i) = nI 101 from ek101]; decide)), if_pos (show S 8 (5 * i) = 101 from ek101)]
    have hc : exC (S 8 (5 * i)) = (1, 0, 2) := by unfold exC; rw [if_neg (show ¬ S 8 (5 * i) = 103 from (by rw [show S 8 (5 * i) = nI 101 from ek101]; decide)), if_neg (show ¬ S 8 (5 * i) = 100 from (by rw [show S 8 (5 * i) = nI 101 from ek101]; decide)), if_neg (show ¬ S 8 (5 * i) = 109 from (by rw [show S 8 (5 * i) = nI 101 from ek101]; decide)), if_neg (show ¬ S 8 (5 * i) = 106 from (by rw [show S 8 (5 * i) = nI 101 from ek101]; decide)), if_neg (show ¬ S 8 (5 * i) = 111 from (by rw [show S 8 (5 * i) = nI 101 from ek101]; decide)), if_pos (show S 8 (5 * i) = 101 from ek101)]
    rw [hx, hc]
    exact ⟨rfl, rfl⟩
  by_cases ek102 : (S 8) (5 * i) = nI 102
  · skip
    refine x_val ek102 ?_
    refine x_tableIn 227 dX5_carries_6 (by decide) (by decide) rfl (by decide) ?_
    refine x_aload_n dX5_carries_227 rfl rfl ?_
    refine x_aload_n dX5_carries_228 rfl rfl ?_
    refine tg_told T (.inl q2100) dX5_carries_229 ?_
    refine x_iload_n dX5_carries_232 rfl rfl ?_
    refine x_iconst (nI 1) dX5_carries_233 (by decide) ?_
    refine x_iadd dX5_carries_234 ?_
    refine x_val (nI_add _ _) ?_
    refine tld8 T rfl (by omega) dX5_carries_235 ?_
    refine x_cVI (t_rest T O VO) okX5_rest clX5 q2475 q2343 q2344 dX5_carries_236 (Or.inl T.1) rfl rfl (by decide) (Nat.zero_le _) (Nat.zero_le _) (Nat.le_of_ble_eq_true rfl) (fun _ => ?_)
    refine x_iret rfl dX5_carries_239 ?_
    have hx : exF (S 8) g i = (sp_rest g ((S 8) ((5 * i) + 1))) := by unfold exF exS; rw [if_neg (show ¬ S 8 (5 * i) = 103 from (by rw [show S 8 (5 * i) = nI 102 from ek102]; decide)), if_neg (show ¬ S 8 (5 * i) = 100 from (by rw [show S 8 (5 * i) = nI 102 from ek102]; decide)), if_neg (show ¬ S 8 (5 * i) = 109 from (by rw [show S 8 (5 * i) = nI 102 from ek102]; decide)), if_neg (show ¬ S 8 (5 * i) = 106 from (by rw [show S 8 (5 * i) = nI 102 from ek102]; decide)), if_neg (show ¬ S 8 (5 * i) = 111 from (by rw [show S 8 (5 * i) = nI 102 from ek102]; decide)), if_neg (show ¬ S 8 (5 * i) = 101 from (by rw [show S 8 (5 * i) = nI 102 from ek102]; decide)), if_neg (show ¬ S 8 (5 * i) = 118 from (by rw [show S 8 (5 * i) = nI 102 from ek102]; decide))]
    have hc : exC (S 8 (5 * i)) = (0, 1, 2) := by unfold exC; rw [if_neg (show ¬ S 8 (5 * i) = 103 from (by rw [show S 8 (5 * i) = nI 102 from ek102]; decide)), if_neg (show ¬ S 8 (5 * i) = 100 from (by rw [show S 8 (5 * i) = nI 102 from ek102]; decide)), if_neg (show ¬ S 8 (5 * i) = 109 from (by rw [show S 8 (5 * i) = nI 102 from ek102]; decide)), if_neg (show ¬ S 8 (5 * i) = 106 from (by rw [show S 8 (5 * i) = nI 102 from ek102]; decide)), if_neg (show ¬ S 8 (5 * i) = 111 from (by rw [show S 8 (5 * i) = nI 102 from ek102]; decide)), if_neg (show ¬ S 8 (5 * i) = 101 from (by rw [show S 8 (5 * i) = nI 102 from ek102]; decide)), if_neg (show ¬ S 8 (5 * i) = 118 from (by rw [show S 8 (5 * i) = nI 102 from ek102]; decide))]
    rw [hx, hc]
    exact ⟨rfl, rfl⟩
  by_cases ek103 : (S 8) (5 * i) = nI 103
  · skip
    refine x_val ek103 ?_
    refine x_tableIn 96 dX5_carries_6 (by decide) (by decide) rfl (by decide) ?_
    refine x_aload_n dX5_carries_96 rfl rfl ?_
    refine x_aload_n dX5_carries_97 rfl rfl ?_
    refine tg_told T (.inl q2100) dX5_carries_98 ?_
    refine x_iload_n dX5_carries_101 rfl rfl ?_
    refine x_iconst (nI 1) dX5_carries_102 (by decide) ?_
    refine x_iadd dX5_carries_103 ?_
    refine x_val (nI_add _ _) ?_
    refine tld8 T rfl (by omega) dX5_carries_104 ?_
    refine x_aload_n dX5_carries_105 rfl rfl ?_
    refine tg_told T (.inl q2100) dX5_carries_106 ?_
    refine x_iload_n dX5_carries_109 rfl rfl ?_
    refine x_iconst (nI 2) dX5_carries_110 (by decide) ?_
    refine x_iadd dX5_carries_111 ?_
    refine x_val (nI_add _ _) ?_
    refine tld8 T rfl (by omega) dX5_carries_112 ?_
    refine x_aload_n dX5_carries_113 rfl rfl ?_
    refine tg_told T (.inl q2100) dX5_carries_114 ?_
    refine x_iload_n dX5_carries_117 rfl rfl ?_
    refine x_iconst (nI 3) dX5_carries_118 (by decide) ?_
    refine x_iadd dX5_carries_119 ?_
    refine x_val (nI_add _ _) ?_
    refine tld8 T rfl (by omega) dX5_carries_120 ?_
    refine x_aload_n dX5_carries_121 rfl rfl ?_
    refine tg_told T (.inl q2100) dX5_carries_122 ?_
    refine x_iload_n dX5_carries_125 rfl rfl ?_
    refine x_iconst (nI 4) dX5_carries_126 (by decide) ?_
    refine x_iadd dX5_carries_127 ?_
    refine x_val (nI_add _ _) ?_
    refine tld8 T rfl (by omega) dX5_carries_128 ?_
    refine x_cVI (t_grind T O VO) okX5_grind clX5 q2468 q2190 q2191 dX5_carries_129 (Or.inl T.1) rfl rfl (by decide) (Nat.zero_le _) (Nat.zero_le _) (Nat.le_of_ble_eq_true rfl) (fun _ => ?_)
    refine x_iret rfl dX5_carries_132 ?_
    have hx : exF (S 8) g i = (sp_grind g ((S 8) ((5 * i) + 1)) ((S 8) ((5 * i) + 2)) ((S 8) ((5 * i) + 3)) ((S 8) ((5 * i) + 4))) := by unfold exF exS; rw [if_pos (show S 8 (5 * i) = 103 from ek103)]
    have hc : exC (S 8 (5 * i)) = (1, 2, 3) := by unfold exC; rw [if_pos (show S 8 (5 * i) = 103 from ek103)]
    rw [hx, hc]
    exact ⟨rfl, rfl⟩
  by_cases ek104 : (S 8) (5 * i) = nI 104
  · skip
    refine x_val ek104 ?_
    refine x_tableIn 227 dX5_carries_6 (by decide) (by decide) rfl (by decide) ?_
    refine x_aload_n dX5_carries_227 rfl rfl ?_
    refine x_aload_n dX5_carries_228 rfl rfl ?_
    refine tg_told T (.inl q2100) dX5_carries_229 ?_
    refine x_iload_n dX5_carries_232 rfl rfl ?_
    refine x_iconst (nI 1) dX5_carries_233 (by decide) ?_
    refine x_iadd dX5_carries_234 ?_
    refine x_val (nI_add _ _) ?_
    refine tld8 T rfl (by omega) dX5_carries_235 ?_
    refine x_cVI (t_rest T O VO) okX5_rest clX5 q2475 q2343 q2344 dX5_carries_236 (Or.inl T.1) rfl rfl (by decide) (Nat.zero_le _) (Nat.zero_le _) (Nat.le_of_ble_eq_true rfl) (fun _ => ?_)
    refine x_iret rfl dX5_carries_239 ?_
    have hx : exF (S 8) g i = (sp_rest g ((S 8) ((5 * i) + 1))) := by unfold exF exS; rw [if_neg (show ¬ S 8 (5 * i) = 103 from (by rw [show S 8 (5 * i) = nI 104 from ek104]; decide)), if_neg (show ¬ S 8 (5 * i) = 100 from (by rw [show S 8 (5 * i) = nI 104 from ek104]; decide)), if_neg (show ¬ S 8 (5 * i) = 109 from (by rw [show S 8 (5 * i) = nI 104 from ek104]; decide)), if_neg (show ¬ S 8 (5 * i) = 106 from (by rw [show S 8 (5 * i) = nI 104 from ek104]; decide)), if_neg (show ¬ S 8 (5 * i) = 111 from (by rw [show S 8 (5 * i) = nI 104 from ek104]; decide)), if_neg (show ¬ S 8 (5 * i) = 101 from (by rw [show S 8 (5 * i) = nI 104 from ek104]; decide)), if_neg (show ¬ S 8 (5 * i) = 118 from (by rw [show S 8 (5 * i) = nI 104 from ek104]; decide))]
    have hc : exC (S 8 (5 * i)) = (0, 1, 2) := by unfold exC; rw [if_neg (show ¬ S 8 (5 * i) = 103 from (by rw [show S 8 (5 * i) = nI 104 from ek104]; decide)), if_neg (show ¬ S 8 (5 * i) = 100 from (by rw [show S 8 (5 * i) = nI 104 from ek104]; decide)), if_neg (show ¬ S 8 (5 * i) = 109 from (by rw [show S 8 (5 * i) = nI 104 from ek104]; decide)), if_neg (show ¬ S 8 (5 * i) = 106 from (by rw [show S 8 (5 * i) = nI 104 from ek104]; decide)), if_neg (show ¬ S 8 (5 * i) = 111 from (by rw [show S 8 (5 * i) = nI 104 from ek104]; decide)), if_neg (show ¬ S 8 (5 * i) = 101 from (by rw [show S 8 (5 * i) = nI 104 from ek104]; decide)), if_neg (show ¬ S 8 (5 * i) = 118 from (by rw [show S 8 (5 * i) = nI 104 from ek104]; decide))]
    rw [hx, hc]
    exact ⟨rfl, rfl⟩
  by_cases ek105 : (S 8) (5 * i) = nI 105
  · skip
    refine x_val ek105 ?_
    refine x_tableIn 227 dX5_carries_6 (by decide) (by decide) rfl (by decide) ?_
    refine x_aload_n dX5_carries_227 rfl rfl ?_
    refine x_aload_n dX5_carries_228 rfl rfl ?_
    refine tg_told T (.inl q2100) dX5_carries_229 ?_
    refine x_iload_n dX5_carries_232 rfl rfl ?_
    refine x_iconst (nI 1) dX5_carries_233 (by decide) ?_
    refine x_iadd dX5_carries_234 ?_
    refine x_val (nI_add _ _) ?_
    refine tld8 T rfl (by omega) dX5_carries_235 ?_
    refine x_cVI (t_rest T O VO) okX5_rest clX5 q2475 q2343 q2344 dX5_carries_236 (Or.inl T.1) rfl rfl (by decide) (Nat.zero_le _) (Nat.zero_le _) (Nat.le_of_ble_eq_true rfl) (fun _ => ?_)
    refine x_iret rfl dX5_carries_239 ?_
    have hx : exF (S 8) g i = (sp_rest g ((S 8) ((5 * i) + 1))) := by unfold exF exS; rw [if_neg (show ¬ S 8 (5 * i) = 103 from (by rw [show S 8 (5 * i) = nI 105 from ek105]; decide)), if_neg (show ¬ S 8 (5 * i) = 100 from (by rw [show S 8 (5 * i) = nI 105 from ek105]; decide)), if_neg (show ¬ S 8 (5 * i) = 109 from (by rw [show S 8 (5 * i) = nI 105 from ek105]; decide)), if_neg (show ¬ S 8 (5 * i) = 106 from (by rw [show S 8 (5 * i) = nI 105 from ek105]; decide)), if_neg (show ¬ S 8 (5 * i) = 111 from (by rw [show S 8 (5 * i) = nI 105 from ek105]; decide)), if_neg (show ¬ S 8 (5 * i) = 101 from (by rw [show S 8 (5 * i) = nI 105 from ek105]; decide)), if_neg (show ¬ S 8 (5 * i) = 118 from (by rw [show S 8 (5 * i) = nI 105 from ek105]; decide))]
    have hc : exC (S 8 (5 * i)) = (0, 1, 2) := by unfold exC; rw [if_neg (show ¬ S 8 (5 * i) = 103 from (by rw [show S 8 (5 * i) = nI 105 from ek105]; decide)), if_neg (show ¬ S 8 (5 * i) = 100 from (by rw [show S 8 (5 * i) = nI 105 from ek105]; decide)), if_neg (show ¬ S 8 (5 * i) = 109 from (by rw [show S 8 (5 * i) = nI 105 from ek105]; decide)), if_neg (show ¬ S 8 (5 * i) = 106 from (by rw [show S 8 (5 * i) = nI 105 from ek105]; decide)), if_neg (show ¬ S 8 (5 * i) = 111 from (by rw [show S 8 (5 * i) = nI 105 from ek105]; decide)), if_neg (show ¬ S 8 (5 * i) = 101 from (by rw [show S 8 (5 * i) = nI 105 from ek105]; decide)), if_neg (show ¬ S 8 (5 * i) = 118 from (by rw [show S 8 (5 * i) = nI 105 from ek105]; decide))]
    rw [hx, hc]
    exact ⟨rfl, rfl⟩
  by_cases ek106 : (S 8) (5 * i) = nI 106
  · skip
    refine x_val ek106 ?_
    refine x_tableIn 167 dX5_carries_6 (by decide) (by decide) rfl (by decide) ?_
    refine x_aload_n dX5_carries_167 rfl rfl ?_
    refine x_aload_n dX5_carries_168 rfl rfl ?_
    refine tg_told T (.inl q2100) dX5_carries_169 ?_
    refine x_iload_n dX5_carries_172 rfl rfl ?_
    refine x_iconst (nI 1) dX5_carries_173 (by decide) ?_
    refine x_iadd dX5_carries_174 ?_
    refine x_val (nI_add _ _) ?_
    refine tld8 T rfl (by omega) dX5_carries_175 ?_
    refine x_aload_n dX5_carries_176 rfl rfl ?_
    refine tg_told T (.inl q2100) dX5_carries_177 ?_
    refine x_iload_n dX5_carries_180 rfl rfl ?_
    refine x_iconst (nI 2) dX5_carries_181 (by decide) ?_
    refine x_iadd dX5_carries_182 ?_
    refine x_val (nI_add _ _) ?_
    refine tld8 T rfl (by omega) dX5_carries_183 ?_
    refine x_cVI (t_jar T O VO) okX5_jar clX5 q2471 q2236 q2237 dX5_carries_184 (Or.inl T.1) rfl rfl (by decide) (Nat.zero_le _) (Nat.zero_le _) (Nat.le_of_ble_eq_true rfl) (fun _ => ?_)
    refine x_iret rfl dX5_carries_187 ?_
    have hx : exF (S 8) g i = (sp_jar g ((S 8) ((5 * i) + 1)) ((S 8) ((5 * i) + 2))) := by unfold exF exS; rw [if_neg (show ¬ S 8 (5 * i) = 103 from (by rw [show S 8 (5 * i) = nI 106 from ek106]; decide)), if_neg (show ¬ S 8 (5 * i) = 100 from (by rw [show S 8 (5 * i) = nI 106 from ek106]; decide)), if_neg (show ¬ S 8 (5 * i) = 109 from (by rw [show S 8 (5 * i) = nI 106 from ek106]; decide)), if_pos (show S 8 (5 * i) = 106 from ek106)]
    have hc : exC (S 8 (5 * i)) = (1, 2, 3) := by unfold exC; rw [if_neg (show ¬ S 8 (5 * i) = 103 from (by rw [show S 8 (5 * i) = nI 106 from ek106]; decide)), if_neg (show ¬ S 8 (5 * i) = 100 from (by rw [show S 8 (5 * i) = nI 106 from ek106]; decide)), if_neg (show ¬ S 8 (5 * i) = 109 from (by rw [show S 8 (5 * i) = nI 106 from ek106]; decide)), if_pos (show S 8 (5 * i) = 106 from ek106)]
    rw [hx, hc]
    exact ⟨rfl, rfl⟩
  by_cases ek107 : (S 8) (5 * i) = nI 107
  · skip
    refine x_val ek107 ?_
    refine x_tableIn 227 dX5_carries_6 (by decide) (by decide) rfl (by decide) ?_
    refine x_aload_n dX5_carries_227 rfl rfl ?_
    refine x_aload_n dX5_carries_228 rfl rfl ?_
    refine tg_told T (.inl q2100) dX5_carries_229 ?_
    refine x_iload_n dX5_carries_232 rfl rfl ?_
    refine x_iconst (nI 1) dX5_carries_233 (by decide) ?_
    refine x_iadd dX5_carries_234 ?_
    refine x_val (nI_add _ _) ?_
    refine tld8 T rfl (by omega) dX5_carries_235 ?_
    refine x_cVI (t_rest T O VO) okX5_rest clX5 q2475 q2343 q2344 dX5_carries_236 (Or.inl T.1) rfl rfl (by decide) (Nat.zero_le _) (Nat.zero_le _) (Nat.le_of_ble_eq_true rfl) (fun _ => ?_)
    refine x_iret rfl dX5_carries_239 ?_
    have hx : exF (S 8) g i = (sp_rest g ((S 8) ((5 * i) + 1))) := by unfold exF exS; rw [if_neg (show ¬ S 8 (5 * i) = 103 from (by rw [show S 8 (5 * i) = nI 107 from ek107]; decide)), if_neg (show ¬ S 8 (5 * i) = 100 from (by rw [show S 8 (5 * i) = nI 107 from ek107]; decide)), if_neg (show ¬ S 8 (5 * i) = 109 from (by rw [show S 8 (5 * i) = nI 107 from ek107]; decide)), if_neg (show ¬ S 8 (5 * i) = 106 from (by rw [show S 8 (5 * i) = nI 107 from ek107]; decide)), if_neg (show ¬ S 8 (5 * i) = 111 from (by rw [show S 8 (5 * i) = nI 107 from ek107]; decide)), if_neg (show ¬ S 8 (5 * i) = 101 from (by rw [show S 8 (5 * i) = nI 107 from ek107]; decide)), if_neg (show ¬ S 8 (5 * i) = 118 from (by rw [show S 8 (5 * i) = nI 107 from ek107]; decide))]
    have hc : exC (S 8 (5 * i)) = (0, 1, 2) := by unfold exC; rw [if_neg (show ¬ S 8 (5 * i) = 103 from (by rw [show S 8 (5 * i) = nI 107 from ek107]; decide)), if_neg (show ¬ S 8 (5 * i) = 100 from (by rw [show S 8 (5 * i) = nI 107 from ek107]; decide)), if_neg (show ¬ S 8 (5 * i) = 109 from (by rw [show S 8 (5 * i) = nI 107 from ek107]; decide)), if_neg (show ¬ S 8 (5 * i) = 106 from (by rw [show S 8 (5 * i) = nI 107 from ek107]; decide)), if_neg (show ¬ S 8 (5 * i) = 111 from (by rw [show S 8 (5 * i) = nI 107 from ek107]; decide)), if_neg (show ¬ S 8 (5 * i) = 101 from (by rw [show S 8 (5 * i) = nI 107 from ek107]; decide)), if_neg (show ¬ S 8 (5 * i) = 118 from (by rw [show S 8 (5 * i) = nI 107 from ek107]; decide))]
    rw [hx, hc]
    exact ⟨rfl, rfl⟩
  by_cases ek108 : (S 8) (5 * i) = nI 108
  · skip
    refine x_val ek108 ?_
    refine x_tableIn 227 dX5_carries_6 (by decide) (by decide) rfl (by decide) ?_
    refine x_aload_n dX5_carries_227 rfl rfl ?_
    refine x_aload_n dX5_carries_228 rfl rfl ?_
    refine tg_told T (.inl q2100) dX5_carries_229 ?_
    refine x_iload_n dX5_carries_232 rfl rfl ?_
    refine x_iconst (nI 1) dX5_carries_233 (by decide) ?_
    refine x_iadd dX5_carries_234 ?_
    refine x_val (nI_add _ _) ?_
    refine tld8 T rfl (by omega) dX5_carries_235 ?_
    refine x_cVI (t_rest T O VO) okX5_rest clX5 q2475 q2343 q2344 dX5_carries_236 (Or.inl T.1) rfl rfl (by decide) (Nat.zero_le _) (Nat.zero_le _) (Nat.le_of_ble_eq_true rfl) (fun _ => ?_)
    refine x_iret rfl dX5_carries_239 ?_
    have hx : exF (S 8) g i = (sp_rest g ((S 8) ((5 * i) + 1))) := by unfold exF exS; rw [if_neg (show ¬ S 8 (5 * i) = 103 from (by rw [show S 8 (5 * i) = nI 108 from ek108]; decide)), if_neg (show ¬ S 8 (5 * i) = 100 from (by rw [show S 8 (5 * i) = nI 108 from ek108]; decide)), if_neg (show ¬ S 8 (5 * i) = 109 from (by rw [show S 8 (5 * i) = nI 108 from ek108]; decide)), if_neg (show ¬ S 8 (5 * i) = 106 from (by rw [show S 8 (5 * i) = nI 108 from ek108]; decide)), if_neg (show ¬ S 8 (5 * i) = 111 from (by rw [show S 8 (5 * i) = nI 108 from ek108]; decide)), if_neg (show ¬ S 8 (5 * i) = 101 from (by rw [show S 8 (5 * i) = nI 108 from ek108]; decide)), if_neg (show ¬ S 8 (5 * i) = 118 from (by rw [show S 8 (5 * i) = nI 108 from ek108]; decide))]
    have hc : exC (S 8 (5 * i)) = (0, 1, 2) := by unfold exC; rw [if_neg (show ¬ S 8 (5 * i) = 103 from (by rw [show S 8 (5 * i) = nI 108 from ek108]; decide)), if_neg (show ¬ S 8 (5 * i) = 100 from (by rw [show S 8 (5 * i) = nI 108 from ek108]; decide)), if_neg (show ¬ S 8 (5 * i) = 109 from (by rw [show S 8 (5 * i) = nI 108 from ek108]; decide)), if_neg (show ¬ S 8 (5 * i) = 106 from (by rw [show S 8 (5 * i) = nI 108 from ek108]; decide)), if_neg (show ¬ S 8 (5 * i) = 111 from (by rw [show S 8 (5 * i) = nI 108 from ek108]; decide)), if_neg (show ¬ S 8 (5 * i) = 101 from (by rw [show S 8 (5 * i) = nI 108 from ek108]; decide)), if_neg (show ¬ S 8 (5 * i) = 118 from (by rw [show S 8 (5 * i) = nI 108 from ek108]; decide))]
    rw [hx, hc]
    exact ⟨rfl, rfl⟩
  by_cases ek109 : (S 8) (5 * i) = nI 109
  · skip
    refine x_val ek109 ?_
    refine x_tableIn 146 dX5_carries_6 (by decide) (by decide) rfl (by decide) ?_
    refine x_aload_n dX5_carries_146 rfl rfl ?_
    refine x_aload_n dX5_carries_147 rfl rfl ?_
    refine tg_told T (.inl q2100) dX5_carries_148 ?_
    refine x_iload_n dX5_carries_151 rfl rfl ?_
    refine x_iconst (nI 1) dX5_carries_152 (by decide) ?_
    refine x_iadd dX5_carries_153 ?_
    refine x_val (nI_add _ _) ?_
    refine tld8 T rfl (by omega) dX5_carries_154 ?_
    refine x_aload_n dX5_carries_155 rfl rfl ?_
    refine tg_told T (.inl q2100) dX5_carries_156 ?_
    refine x_iload_n dX5_carries_159 rfl rfl ?_
    refine x_iconst (nI 2) dX5_carries_160 (by decide) ?_
    refine x_iadd dX5_carries_161 ?_
    refine x_val (nI_add _ _) ?_
    refine tld8 T rfl (by omega) dX5_carries_162 ?_
    refine x_cVI (t_mix T O VO) okX5_mix clX5 q2470 q2216 q2217 dX5_carries_163 (Or.inl T.1) rfl rfl (by decide) (Nat.zero_le _) (Nat.zero_le _) (Nat.le_of_ble_eq_true rfl) (fun _ => ?_)
    refine x_iret rfl dX5_carries_166 ?_
    have hx : exF (S 8) g i = (sp_mix g ((S 8) ((5 * i) + 1)) ((S 8) ((5 * i) + 2))) := by unfold exF exS; rw [if_neg (show ¬ S 8 (5 * i) = 103 from (by rw [show S 8 (5 * i) = nI 109 from ek109]; decide)), if_neg (show ¬ S 8 (5 * i) = 100 from (by rw [show S 8 (5 * i) = nI 109 from ek109]; decide)), if_pos (show S 8 (5 * i) = 109 from ek109)]
    have hc : exC (S 8 (5 * i)) = (1, 2, 3) := by unfold exC; rw [if_neg (show ¬ S 8 (5 * i) = 103 from (by rw [show S 8 (5 * i) = nI 109 from ek109]; decide)), if_neg (show ¬ S 8 (5 * i) = 100 from (by rw [show S 8 (5 * i) = nI 109 from ek109]; decide)), if_pos (show S 8 (5 * i) = 109 from ek109)]
    rw [hx, hc]
    exact ⟨rfl, rfl⟩
  by_cases ek110 : (S 8) (5 * i) = nI 110
  · skip
    refine x_val ek110 ?_
    refine x_tableIn 227 dX5_carries_6 (by decide) (by decide) rfl (by decide) ?_
    refine x_aload_n dX5_carries_227 rfl rfl ?_
    refine x_aload_n dX5_carries_228 rfl rfl ?_
    refine tg_told T (.inl q2100) dX5_carries_229 ?_
    refine x_iload_n dX5_carries_232 rfl rfl ?_
    refine x_iconst (nI 1) dX5_carries_233 (by decide) ?_
    refine x_iadd dX5_carries_234 ?_
    refine x_val (nI_add _ _) ?_
    refine tld8 T rfl (by omega) dX5_carries_235 ?_
    refine x_cVI (t_rest T O VO) okX5_rest clX5 q2475 q2343 q2344 dX5_carries_236 (Or.inl T.1) rfl rfl (by decide) (Nat.zero_le _) (Nat.zero_le _) (Nat.le_of_ble_eq_true rfl) (fun _ => ?_)
    refine x_iret rfl dX5_carries_239 ?_
    have hx : exF (S 8) g i = (sp_rest g ((S 8) ((5 * i) + 1))) := by unfold exF exS; rw [if_neg (show ¬ S 8 (5 * i) = 103 from (by rw [show S 8 (5 * i) = nI 110 from ek110]; decide)), if_neg (show ¬ S 8 (5 * i) = 100 from (by rw [show S 8 (5 * i) = nI 110 from ek110]; decide)), if_neg (show ¬ S 8 (5 * i) = 109 from (by rw [show S 8 (5 * i) = nI 110 from ek110]; decide)), if_neg (show ¬ S 8 (5 * i) = 106 from (by rw [show S 8 (5 * i) = nI 110 from ek110]; decide)), if_neg (show ¬ S 8 (5 * i) = 111 from (by rw [show S 8 (5 * i) = nI 110 from ek110]; decide)), if_neg (show ¬ S 8 (5 * i) = 101 from (by rw [show S 8 (5 * i) = nI 110 from ek110]; decide)), if_neg (show ¬ S 8 (5 * i) = 118 from (by rw [show S 8 (5 * i) = nI 110 from ek110]; decide))]
    have hc : exC (S 8 (5 * i)) = (0, 1, 2) := by unfold exC; rw [if_neg (show ¬ S 8 (5 * i) = 103 from (by rw [show S 8 (5 * i) = nI 110 from ek110]; decide)), if_neg (show ¬ S 8 (5 * i) = 100 from (by rw [show S 8 (5 * i) = nI 110 from ek110]; decide)), if_neg (show ¬ S 8 (5 * i) = 109 from (by rw [show S 8 (5 * i) = nI 110 from ek110]; decide)), if_neg (show ¬ S 8 (5 * i) = 106 from (by rw [show S 8 (5 * i) = nI 110 from ek110]; decide)), if_neg (show ¬ S 8 (5 * i) = 111 from (by rw [show S 8 (5 * i) = nI 110 from ek110]; decide)), if_neg (show ¬ S 8 (5 * i) = 101 from (by rw [show S 8 (5 * i) = nI 110 from ek110]; decide)), if_neg (show ¬ S 8 (5 * i) = 118 from (by rw [show S 8 (5 * i) = nI 110 from ek110]; decide))]
    rw [hx, hc]
    exact ⟨rfl, rfl⟩
  by_cases ek111 : (S 8) (5 * i) = nI 111
  · skip
    refine x_val ek111 ?_
    refine x_tableIn 188 dX5_carries_6 (by decide) (by decide) rfl (by decide) ?_
    refine x_aload_n dX5_carries_188 rfl rfl ?_
    refine x_aload_n dX5_carries_189 rfl rfl ?_
    refine tg_told T (.inl q2100) dX5_carries_190 ?_
    refine x_iload_n dX5_carries_193 rfl rfl ?_
    refine x_iconst (nI 1) dX5_carries_194 (by decide) ?_
    refine x_iadd dX5_carries_195 ?_
    refine x_val (nI_add _ _) ?_
    refine tld8 T rfl (by omega) dX5_carries_196 ?_
    refine x_cVI (t_open T O VO) okX5_open clX5 q2472 q2244 q2245 dX5_carries_197 (Or.inl T.1) rfl rfl (by decide) (Nat.zero_le _) (Nat.zero_le _) (Nat.le_of_ble_eq_true rfl) (fun _ => ?_)
    refine x_iret rfl dX5_carries_200 ?_
    have hx : exF (S 8) g i = (sp_open g ((S 8) ((5 * i) + 1))) := by unfold exF exS; rw [if_neg (show ¬ S 8 (5 * i) = 103 from (by rw [show S 8 (5 * i) = nI 111 from ek111]; decide)), if_neg (show ¬ S 8 (5 * i) = 100 from (by rw [show S 8 (5 * i) = nI 111 from ek111]; decide)), if_neg (show ¬ S 8 (5 * i) = 109 from (by rw [show S 8 (5 * i) = nI 111 from ek111]; decide)), if_neg (show ¬ S 8 (5 * i) = 106 from (by rw [show S 8 (5 * i) = nI 111 from ek111]; decide)), if_pos (show S 8 (5 * i) = 111 from ek111)]
    have hc : exC (S 8 (5 * i)) = (1, 0, 2) := by unfold exC; rw [if_neg (show ¬ S 8 (5 * i) = 103 from (by rw [show S 8 (5 * i) = nI 111 from ek111]; decide)), if_neg (show ¬ S 8 (5 * i) = 100 from (by rw [show S 8 (5 * i) = nI 111 from ek111]; decide)), if_neg (show ¬ S 8 (5 * i) = 109 from (by rw [show S 8 (5 * i) = nI 111 from ek111]; decide)), if_neg (show ¬ S 8 (5 * i) = 106 from (by rw [show S 8 (5 * i) = nI 111 from ek111]; decide)), if_pos (show S 8 (5 * i) = 111 from ek111)]
    rw [hx, hc]
    exact ⟨rfl, rfl⟩
  by_cases ek112 : (S 8) (5 * i) = nI 112
  · skip
    refine x_val ek112 ?_
    refine x_tableIn 227 dX5_carries_6 (by decide) (by decide) rfl (by decide) ?_
    refine x_aload_n dX5_carries_227 rfl rfl ?_
    refine x_aload_n dX5_carries_228 rfl rfl ?_
    refine tg_told T (.inl q2100) dX5_carries_229 ?_
    refine x_iload_n dX5_carries_232 rfl rfl ?_
    refine x_iconst (nI 1) dX5_carries_233 (by decide) ?_
    refine x_iadd dX5_carries_234 ?_
    refine x_val (nI_add _ _) ?_
    refine tld8 T rfl (by omega) dX5_carries_235 ?_
    refine x_cVI (t_rest T O VO) okX5_rest clX5 q2475 q2343 q2344 dX5_carries_236 (Or.inl T.1) rfl rfl (by decide) (Nat.zero_le _) (Nat.zero_le _) (Nat.le_of_ble_eq_true rfl) (fun _ => ?_)
    refine x_iret rfl dX5_carries_239 ?_
    have hx : exF (S 8) g i = (sp_rest g ((S 8) ((5 * i) + 1))) := by unfold exF exS; rw [if_neg (show ¬ S 8 (5 * i) = 103 from (by rw [show S 8 (5 * i) = nI 112 from ek112]; decide)), if_neg (show ¬ S 8 (5 * i) = 100 from (by rw [show S 8 (5 * i) = nI 112 from ek112]; decide)), if_neg (show ¬ S 8 (5 * i) = 109 from (by rw [show S 8 (5 * i) = nI 112 from ek112]; decide)), if_neg (show ¬ S 8 (5 * i) = 106 from (by rw [show S 8 (5 * i) = nI 112 from ek112]; decide)), if_neg (show ¬ S 8 (5 * i) = 111 from (by rw [show S 8 (5 * i) = nI 112 from ek112]; decide)), if_neg (show ¬ S 8 (5 * i) = 101 from (by rw [show S 8 (5 * i) = nI 112 from ek112]; decide)), if_neg (show ¬ S 8 (5 * i) = 118 from (by rw [show S 8 (5 * i) = nI 112 from ek112]; decide))]
    have hc : exC (S 8 (5 * i)) = (0, 1, 2) := by unfold exC; rw [if_neg (show ¬ S 8 (5 * i) = 103 from (by rw [show S 8 (5 * i) = nI 112 from ek112]; decide)), if_neg (show ¬ S 8 (5 * i) = 100 from (by rw [show S 8 (5 * i) = nI 112 from ek112]; decide)), if_neg (show ¬ S 8 (5 * i) = 109 from (by rw [show S 8 (5 * i) = nI 112 from ek112]; decide)), if_neg (show ¬ S 8 (5 * i) = 106 from (by rw [show S 8 (5 * i) = nI 112 from ek112]; decide)), if_neg (show ¬ S 8 (5 * i) = 111 from (by rw [show S 8 (5 * i) = nI 112 from ek112]; decide)), if_neg (show ¬ S 8 (5 * i) = 101 from (by rw [show S 8 (5 * i) = nI 112 from ek112]; decide)), if_neg (show ¬ S 8 (5 * i) = 118 from (by rw [show S 8 (5 * i) = nI 112 from ek112]; decide))]
    rw [hx, hc]
    exact ⟨rfl, rfl⟩
  by_cases ek113 : (S 8) (5 * i) = nI 113
  · skip
    refine x_val ek113 ?_
    refine x_tableIn 227 dX5_carries_6 (by decide) (by decide) rfl (by decide) ?_
    refine x_aload_n dX5_carries_227 rfl rfl ?_
    refine x_aload_n dX5_carries_228 rfl rfl ?_
    refine tg_told T (.inl q2100) dX5_carries_229 ?_
    refine x_iload_n dX5_carries_232 rfl rfl ?_
    refine x_iconst (nI 1) dX5_carries_233 (by decide) ?_
    refine x_iadd dX5_carries_234 ?_
    refine x_val (nI_add _ _) ?_
    refine tld8 T rfl (by omega) dX5_carries_235 ?_
    refine x_cVI (t_rest T O VO) okX5_rest clX5 q2475 q2343 q2344 dX5_carries_236 (Or.inl T.1) rfl rfl (by decide) (Nat.zero_le _) (Nat.zero_le _) (Nat.le_of_ble_eq_true rfl) (fun _ => ?_)
    refine x_iret rfl dX5_carries_239 ?_
    have hx : exF (S 8) g i = (sp_rest g ((S 8) ((5 * i) + 1))) := by unfold exF exS; rw [if_neg (show ¬ S 8 (5 * i) = 103 from (by rw [show S 8 (5 * i) = nI 113 from ek113]; decide)), if_neg (show ¬ S 8 (5 * i) = 100 from (by rw [show S 8 (5 * i) = nI 113 from ek113]; decide)), if_neg (show ¬ S 8 (5 * i) = 109 from (by rw [show S 8 (5 * i) = nI 113 from ek113]; decide)), if_neg (show ¬ S 8 (5 * i) = 106 from (by rw [show S 8 (5 * i) = nI 113 from ek113]; decide)), if_neg (show ¬ S 8 (5 * i) = 111 from (by rw [show S 8 (5 * i) = nI 113 from ek113]; decide)), if_neg (show ¬ S 8 (5 * i) = 101 from (by rw [show S 8 (5 * i) = nI 113 from ek113]; decide)), if_neg (show ¬ S 8 (5 * i) = 118 from (by rw [show S 8 (5 * i) = nI 113 from ek113]; decide))]
    have hc : exC (S 8 (5 * i)) = (0, 1, 2) := by unfold exC; rw [if_neg (show ¬ S 8 (5 * i) = 103 from (by rw [show S 8 (5 * i) = nI 113 from ek113]; decide)), if_neg (show ¬ S 8 (5 * i) = 100 from (by rw [show S 8 (5 * i) = nI 113 from ek113]; decide)), if_neg (show ¬ S 8 (5 * i) = 109 from (by rw [show S 8 (5 * i) = nI 113 from ek113]; decide)), if_neg (show ¬ S 8 (5 * i) = 106 from (by rw [show S 8 (5 * i) = nI 113 from ek113]; decide)), if_neg (show ¬ S 8 (5 * i) = 111 from (by rw [show S 8 (5 * i) = nI 113 from ek113]; decide)), if_neg (show ¬ S 8 (5 * i) = 101 from (by rw [show S 8 (5 * i) = nI 113 from ek113]; decide)), if_neg (show ¬ S 8 (5 * i) = 118 from (by rw [show S 8 (5 * i) = nI 113 from ek113]; decide))]
    rw [hx, hc]
    exact ⟨rfl, rfl⟩
  by_cases ek114 : (S 8) (5 * i) = nI 114
  · skip
    refine x_val ek114 ?_
    refine x_tableIn 227 dX5_carries_6 (by decide) (by decide) rfl (by decide) ?_
    refine x_aload_n dX5_carries_227 rfl rfl ?_
    refine x_aload_n dX5_carries_228 rfl rfl ?_
    refine tg_told T (.inl q2100) dX5_carries_229 ?_
    refine x_iload_n dX5_carries_232 rfl rfl ?_
    refine x_iconst (nI 1) dX5_carries_233 (by decide) ?_
    refine x_iadd dX5_carries_234 ?_
    refine x_val (nI_add _ _) ?_
    refine tld8 T rfl (by omega) dX5_carries_235 ?_
    refine x_cVI (t_rest T O VO) okX5_rest clX5 q2475 q2343 q2344 dX5_carries_236 (Or.inl T.1) rfl rfl (by decide) (Nat.zero_le _) (Nat.zero_le _) (Nat.le_of_ble_eq_true rfl) (fun _ => ?_)
    refine x_iret rfl dX5_carries_239 ?_
    have hx : exF (S 8) g i = (sp_rest g ((S 8) ((5 * i) + 1))) := by unfold exF exS; rw [if_neg (show ¬ S 8 (5 * i) = 103 from (by rw [show S 8 (5 * i) = nI 114 from ek114]; decide)), if_neg (show ¬ S 8 (5 * i) = 100 from (by rw [show S 8 (5 * i) = nI 114 from ek114]; decide)), if_neg (show ¬ S 8 (5 * i) = 109 from (by rw [show S 8 (5 * i) = nI 114 from ek114]; decide)), if_neg (show ¬ S 8 (5 * i) = 106 from (by rw [show S 8 (5 * i) = nI 114 from ek114]; decide)), if_neg (show ¬ S 8 (5 * i) = 111 from (by rw [show S 8 (5 * i) = nI 114 from ek114]; decide)), if_neg (show ¬ S 8 (5 * i) = 101 from (by rw [show S 8 (5 * i) = nI 114 from ek114]; decide)), if_neg (show ¬ S 8 (5 * i) = 118 from (by rw [show S 8 (5 * i) = nI 114 from ek114]; decide))]
    have hc : exC (S 8 (5 * i)) = (0, 1, 2) := by unfold exC; rw [if_neg (show ¬ S 8 (5 * i) = 103 from (by rw [show S 8 (5 * i) = nI 114 from ek114]; decide)), if_neg (show ¬ S 8 (5 * i) = 100 from (by rw [show S 8 (5 * i) = nI 114 from ek114]; decide)), if_neg (show ¬ S 8 (5 * i) = 109 from (by rw [show S 8 (5 * i) = nI 114 from ek114]; decide)), if_neg (show ¬ S 8 (5 * i) = 106 from (by rw [show S 8 (5 * i) = nI 114 from ek114]; decide)), if_neg (show ¬ S 8 (5 * i) = 111 from (by rw [show S 8 (5 * i) = nI 114 from ek114]; decide)), if_neg (show ¬ S 8 (5 * i) = 101 from (by rw [show S 8 (5 * i) = nI 114 from ek114]; decide)), if_neg (show ¬ S 8 (5 * i) = 118 from (by rw [show S 8 (5 * i) = nI 114 from ek114]; decide))]
    rw [hx, hc]
    exact ⟨rfl, rfl⟩
  by_cases ek115 : (S 8) (5 * i) = nI 115
  · skip
    refine x_val ek115 ?_
    refine x_tableIn 227 dX5_carries_6 (by decide) (by decide) rfl (by decide) ?_
    refine x_aload_n dX5_carries_227 rfl rfl ?_
    refine x_aload_n dX5_carries_228 rfl rfl ?_
    refine tg_told T (.inl q2100) dX5_carries_229 ?_
    refine x_iload_n dX5_carries_232 rfl rfl ?_
    refine x_iconst (nI 1) dX5_carries_233 (by decide) ?_
    refine x_iadd dX5_carries_234 ?_
    refine x_val (nI_add _ _) ?_
    refine tld8 T rfl (by omega) dX5_carries_235 ?_
    refine x_cVI (t_rest T O VO) okX5_rest clX5 q2475 q2343 q2344 dX5_carries_236 (Or.inl T.1) rfl rfl (by decide) (Nat.zero_le _) (Nat.zero_le _) (Nat.le_of_ble_eq_true rfl) (fun _ => ?_)
    refine x_iret rfl dX5_carries_239 ?_
    have hx : exF (S 8) g i = (sp_rest g ((S 8) ((5 * i) + 1))) := by unfold exF exS; rw [if_neg (show ¬ S 8 (5 * i) = 103 from (by rw [show S 8 (5 * i) = nI 115 from ek115]; decide)), if_neg (show ¬ S 8 (5 * i) = 100 from (by rw [show S 8 (5 * i) = nI 115 from ek115]; decide)), if_neg (show ¬ S 8 (5 * i) = 109 from (by rw [show S 8 (5 * i) = nI 115 from ek115]; decide)), if_neg (show ¬ S 8 (5 * i) = 106 from (by rw [show S 8 (5 * i) = nI 115 from ek115]; decide)), if_neg (show ¬ S 8 (5 * i) = 111 from (by rw [show S 8 (5 * i) = nI 115 from ek115]; decide)), if_neg (show ¬ S 8 (5 * i) = 101 from (by rw [show S 8 (5 * i) = nI 115 from ek115]; decide)), if_neg (show ¬ S 8 (5 * i) = 118 from (by rw [show S 8 (5 * i) = nI 115 from ek115]; decide))]
    have hc : exC (S 8 (5 * i)) = (0, 1, 2) := by unfold exC; rw [if_neg (show ¬ S 8 (5 * i) = 103 from (by rw [show S 8 (5 * i) = nI 115 from ek115]; decide)), if_neg (show ¬ S 8 (5 * i) = 100 from (by rw [show S 8 (5 * i) = nI 115 from ek115]; decide)), if_neg (show ¬ S 8 (5 * i) = 109 from (by rw [show S 8 (5 * i) = nI 115 from ek115]; decide)), if_neg (show ¬ S 8 (5 * i) = 106 from (by rw [show S 8 (5 * i) = nI 115 from ek115]; decide)), if_neg (show ¬ S 8 (5 * i) = 111 from (by rw [show S 8 (5 * i) = nI 115 from ek115]; decide)), if_neg (show ¬ S 8 (5 * i) = 101 from (by rw [show S 8 (5 * i) = nI 115 from ek115]; decide)), if_neg (show ¬ S 8 (5 * i) = 118 from (by rw [show S 8 (5 * i) = nI 115 from ek115]; decide))]
    rw [hx, hc]
    exact ⟨rfl, rfl⟩
  by_cases ek116 : (S 8) (5 * i) = nI 116
  · skip
    refine x_val ek116 ?_
    refine x_tableIn 227 dX5_carries_6 (by decide) (by decide) rfl (by decide) ?_
    refine x_aload_n dX5_carries_227 rfl rfl ?_
    refine x_aload_n dX5_carries_228 rfl rfl ?_
    refine tg_told T (.inl q2100) dX5_carries_229 ?_
    refine x_iload_n dX5_carries_232 rfl rfl ?_
    refine x_iconst (nI 1) dX5_carries_233 (by decide) ?_
    refine x_iadd dX5_carries_234 ?_
    refine x_val (nI_add _ _) ?_
    refine tld8 T rfl (by omega) dX5_carries_235 ?_
    refine x_cVI (t_rest T O VO) okX5_rest clX5 q2475 q2343 q2344 dX5_carries_236 (Or.inl T.1) rfl rfl (by decide) (Nat.zero_le _) (Nat.zero_le _) (Nat.le_of_ble_eq_true rfl) (fun _ => ?_)
    refine x_iret rfl dX5_carries_239 ?_
    have hx : exF (S 8) g i = (sp_rest g ((S 8) ((5 * i) + 1))) := by unfold exF exS; rw [if_neg (show ¬ S 8 (5 * i) = 103 from (by rw [show S 8 (5 * i) = nI 116 from ek116]; decide)), if_neg (show ¬ S 8 (5 * i) = 100 from (by rw [show S 8 (5 * i) = nI 116 from ek116]; decide)), if_neg (show ¬ S 8 (5 * i) = 109 from (by rw [show S 8 (5 * i) = nI 116 from ek116]; decide)), if_neg (show ¬ S 8 (5 * i) = 106 from (by rw [show S 8 (5 * i) = nI 116 from ek116]; decide)), if_neg (show ¬ S 8 (5 * i) = 111 from (by rw [show S 8 (5 * i) = nI 116 from ek116]; decide)), if_neg (show ¬ S 8 (5 * i) = 101 from (by rw [show S 8 (5 * i) = nI 116 from ek116]; decide)), if_neg (show ¬ S 8 (5 * i) = 118 from (by rw [show S 8 (5 * i) = nI 116 from ek116]; decide))]
    have hc : exC (S 8 (5 * i)) = (0, 1, 2) := by unfold exC; rw [if_neg (show ¬ S 8 (5 * i) = 103 from (by rw [show S 8 (5 * i) = nI 116 from ek116]; decide)), if_neg (show ¬ S 8 (5 * i) = 100 from (by rw [show S 8 (5 * i) = nI 116 from ek116]; decide)), if_neg (show ¬ S 8 (5 * i) = 109 from (by rw [show S 8 (5 * i) = nI 116 from ek116]; decide)), if_neg (show ¬ S 8 (5 * i) = 106 from (by rw [show S 8 (5 * i) = nI 116 from ek116]; decide)), if_neg (show ¬ S 8 (5 * i) = 111 from (by rw [show S 8 (5 * i) = nI 116 from ek116]; decide)), if_neg (show ¬ S 8 (5 * i) = 101 from (by rw [show S 8 (5 * i) = nI 116 from ek116]; decide)), if_neg (show ¬ S 8 (5 * i) = 118 from (by rw [show S 8 (5 * i) = nI 116 from ek116]; decide))]
    rw [hx, hc]
    exact ⟨rfl, rfl⟩
  by_cases ek117 : (S 8) (5 * i) = nI 117
  · skip
    refine x_val ek117 ?_
    refine x_tableIn 227 dX5_carries_6 (by decide) (by decide) rfl (by decide) ?_
    refine x_aload_n dX5_carries_227 rfl rfl ?_
    refine x_aload_n dX5_carries_228 rfl rfl ?_
    refine tg_told T (.inl q2100) dX5_carries_229 ?_
    refine x_iload_n dX5_carries_232 rfl rfl ?_
    refine x_iconst (nI 1) dX5_carries_233 (by decide) ?_
    refine x_iadd dX5_carries_234 ?_
    refine x_val (nI_add _ _) ?_
    refine tld8 T rfl (by omega) dX5_carries_235 ?_
    refine x_cVI (t_rest T O VO) okX5_rest clX5 q2475 q2343 q2344 dX5_carries_236 (Or.inl T.1) rfl rfl (by decide) (Nat.zero_le _) (Nat.zero_le _) (Nat.le_of_ble_eq_true rfl) (fun _ => ?_)
    refine x_iret rfl dX5_carries_239 ?_
    have hx : exF (S 8) g i = (sp_rest g ((S 8) ((5 * i) + 1))) := by unfold exF exS; rw [if_neg (show ¬ S 8 (5 * i) = 103 from (by rw [show S 8 (5 * i) = nI 117 from ek117]; decide)), if_neg (show ¬ S 8 (5 * i) = 100 from (by rw [show S 8 (5 * i) = nI 117 from ek117]; decide)), if_neg (show ¬ S 8 (5 * i) = 109 from (by rw [show S 8 (5 * i) = nI 117 from ek117]; decide)), if_neg (show ¬ S 8 (5 * i) = 106 from (by rw [show S 8 (5 * i) = nI 117 from ek117]; decide)), if_neg (show ¬ S 8 (5 * i) = 111 from (by rw [show S 8 (5 * i) = nI 117 from ek117]; decide)), if_neg (show ¬ S 8 (5 * i) = 101 from (by rw [show S 8 (5 * i) = nI 117 from ek117]; decide)), if_neg (show ¬ S 8 (5 * i) = 118 from (by rw [show S 8 (5 * i) = nI 117 from ek117]; decide))]
    have hc : exC (S 8 (5 * i)) = (0, 1, 2) := by unfold exC; rw [if_neg (show ¬ S 8 (5 * i) = 103 from (by rw [show S 8 (5 * i) = nI 117 from ek117]; decide)), if_neg (show ¬ S 8 (5 * i) = 100 from (by rw [show S 8 (5 * i) = nI 117 from ek117]; decide)), if_neg (show ¬ S 8 (5 * i) = 109 from (by rw [show S 8 (5 * i) = nI 117 from ek117]; decide)), if_neg (show ¬ S 8 (5 * i) = 106 from (by rw [show S 8 (5 * i) = nI 117 from ek117]; decide)), if_neg (show ¬ S 8 (5 * i) = 111 from (by rw [show S 8 (5 * i) = nI 117 from ek117]; decide)), if_neg (show ¬ S 8 (5 * i) = 101 from (by rw [show S 8 (5 * i) = nI 117 from ek117]; decide)), if_neg (show ¬ S 8 (5 * i) = 118 from (by rw [show S 8 (5 * i) = nI 117 from ek117]; decide))]
    rw [hx, hc]
    exact ⟨rfl, rfl⟩
  by_cases ek118 : (S 8) (5 * i) = nI 118
  · skip
    refine x_val ek118 ?_
    refine x_tableIn 214 dX5_carries_6 (by decide) (by decide) rfl (by decide) ?_
    refine x_aload_n dX5_carries_214 rfl rfl ?_
    refine x_aload_n dX5_carries_215 rfl rfl ?_
    refine tg_told T (.inl q2100) dX5_carries_216 ?_
    refine x_iload_n dX5_carries_219 rfl rfl ?_
    refine x_iconst (nI 1) dX5_carries_220 (by decide) ?_
    refine x_iadd dX5_carries_221 ?_
    refine x_val (nI_add _ _) ?_
    refine tld8 T rfl (by omega) dX5_carries_222 ?_
    refine x_cVI (t_serve T O VO) okX5_serve clX5 q2474 q2307 q2308 dX5_carries_223 (Or.inl T.1) rfl rfl (by decide) (Nat.zero_le _) (Nat.zero_le _) (Nat.le_of_ble_eq_true rfl) (fun _ => ?_)
    refine x_iret rfl dX5_carries_226 ?_
    have hx : exF (S 8) g i = (sp_serve g ((S 8) ((5 * i) + 1))) := by unfold exF exS; rw [if_neg (show ¬ S 8 (5 * i) = 103 from (by rw [show S 8 (5 * i) = nI 118 from ek118]; decide)), if_neg (show ¬ S 8 (5 * i) = 100 from (by rw [show S 8 (5 * i) = nI 118 from ek118]; decide)), if_neg (show ¬ S 8 (5 * i) = 109 from (by rw [show S 8 (5 * i) = nI 118 from ek118]; decide)), if_neg (show ¬ S 8 (5 * i) = 106 from (by rw [show S 8 (5 * i) = nI 118 from ek118]; decide)), if_neg (show ¬ S 8 (5 * i) = 111 from (by rw [show S 8 (5 * i) = nI 118 from ek118]; decide)), if_neg (show ¬ S 8 (5 * i) = 101 from (by rw [show S 8 (5 * i) = nI 118 from ek118]; decide)), if_pos (show S 8 (5 * i) = 118 from ek118)]
    have hc : exC (S 8 (5 * i)) = (1, 0, 2) := by unfold exC; rw [if_neg (show ¬ S 8 (5 * i) = 103 from (by rw [show S 8 (5 * i) = nI 118 from ek118]; decide)), if_neg (show ¬ S 8 (5 * i) = 100 from (by rw [show S 8 (5 * i) = nI 118 from ek118]; decide)), if_neg (show ¬ S 8 (5 * i) = 109 from (by rw [show S 8 (5 * i) = nI 118 from ek118]; decide)), if_neg (show ¬ S 8 (5 * i) = 106 from (by rw [show S 8 (5 * i) = nI 118 from ek118]; decide)), if_neg (show ¬ S 8 (5 * i) = 111 from (by rw [show S 8 (5 * i) = nI 118 from ek118]; decide)), if_neg (show ¬ S 8 (5 * i) = 101 from (by rw [show S 8 (5 * i) = nI 118 from ek118]; decide)), if_pos (show S 8 (5 * i) = 118 from ek118)]
    rw [hx, hc]
    exact ⟨rfl, rfl⟩
  refine x_tableOut 227 dX5_carries_6 (ts_out 100 118 (by decide) (fun k h1 h2 z => by
    rcases (show k = 100 ∨ k = 101 ∨ k = 102 ∨ k = 103 ∨ k = 104 ∨ k = 105 ∨ k = 106 ∨ k = 107 ∨ k = 108 ∨ k = 109 ∨ k = 110 ∨ k = 111 ∨ k = 112 ∨ k = 113 ∨ k = 114 ∨ k = 115 ∨ k = 116 ∨ k = 117 ∨ k = 118 by omega) with r | r | r | r | r | r | r | r | r | r | r | r | r | r | r | r | r | r | r
    · rw [r] at z; exact ek100 z
    · rw [r] at z; exact ek101 z
    · rw [r] at z; exact ek102 z
    · rw [r] at z; exact ek103 z
    · rw [r] at z; exact ek104 z
    · rw [r] at z; exact ek105 z
    · rw [r] at z; exact ek106 z
    · rw [r] at z; exact ek107 z
    · rw [r] at z; exact ek108 z
    · rw [r] at z; exact ek109 z
    · rw [r] at z; exact ek110 z
    · rw [r] at z; exact ek111 z
    · rw [r] at z; exact ek112 z
    · rw [r] at z; exact ek113 z
    · rw [r] at z; exact ek114 z
    · rw [r] at z; exact ek115 z
    · rw [r] at z; exact ek116 z
    · rw [r] at z; exact ek117 z
    · rw [r] at z; exact ek118 z
    )) (by decide) ?_
  refine x_aload_n dX5_carries_227 rfl rfl ?_
  refine x_aload_n dX5_carries_228 rfl rfl ?_
  refine tg_told T (.inl q2100) dX5_carries_229 ?_
  refine x_iload_n dX5_carries_232 rfl rfl ?_
  refine x_iconst (nI 1) dX5_carries_233 (by decide) ?_
  refine x_iadd dX5_carries_234 ?_
  refine x_val (nI_add _ _) ?_
  refine tld8 T rfl (by omega) dX5_carries_235 ?_
  refine x_cVI (t_rest T O VO) okX5_rest clX5 q2475 q2343 q2344 dX5_carries_236 (Or.inl T.1) rfl rfl (by decide) (Nat.zero_le _) (Nat.zero_le _) (Nat.le_of_ble_eq_true rfl) (fun _ => ?_)
  refine x_iret rfl dX5_carries_239 ?_
  have hx : exF (S 8) g i = (sp_rest g ((S 8) ((5 * i) + 1))) := by unfold exF exS; rw [if_neg (show ¬ S 8 (5 * i) = 103 from ek103), if_neg (show ¬ S 8 (5 * i) = 100 from ek100), if_neg (show ¬ S 8 (5 * i) = 109 from ek109), if_neg (show ¬ S 8 (5 * i) = 106 from ek106), if_neg (show ¬ S 8 (5 * i) = 111 from ek111), if_neg (show ¬ S 8 (5 * i) = 101 from ek101), if_neg (show ¬ S 8 (5 * i) = 118 from ek118)]
  have hc : exC (S 8 (5 * i)) = (0, 1, 2) := by unfold exC; rw [if_neg (show ¬ S 8 (5 * i) = 103 from ek103), if_neg (show ¬ S 8 (5 * i) = 100 from ek100), if_neg (show ¬ S 8 (5 * i) = 109 from ek109), if_neg (show ¬ S 8 (5 * i) = 106 from ek106), if_neg (show ¬ S 8 (5 * i) = 111 from ek111), if_neg (show ¬ S 8 (5 * i) = 101 from ek101), if_neg (show ¬ S 8 (5 * i) = 118 from ek118)]
  rw [hx, hc]
  exact ⟨rfl, rfl⟩
