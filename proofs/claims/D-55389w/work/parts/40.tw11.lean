/-! THE REFERENCE, eleventh part: wordHere, orderHere, isText; printed by tools/tw11.py -/
set_option maxRecDepth 100000
theorem t_wordHere {G : GG} {h : AH} {a : Nat} {g : Nat → Int32} {S : Nat → Nat → Int32} {V : Nat → Int32} {t : List Int32} {p m : Nat} {F : Nat → Int32} (T : Tw h a) (I : InR S V t) (hp : p ≤ t.length) (SG : GSt G) : Cal G kX5_wordHere 5 0 0 [.ref a] (rdH h a g S V p m F) (rI (whS t p).1 (rdH h a g S V ((whS t p).2) m F)) := by
  refine Cal.of (by decide +kernel) (Nat.le_of_ble_eq_true rfl) (fun c => ?_)
  have h60 := I.2.2
  refine x_aload_n dX5_wordHere_0 rfl rfl ?_
  refine x_cVI (t_here T I hp) okX5_here clX5 q2440 q2442 qs58 dX5_wordHere_1 (Or.inl T.1) rfl rfl (by decide) (Nat.zero_le _) (Nat.zero_le _) (Nat.le_of_ble_eq_true rfl) (fun _ => ?_)
  by_cases ek100 : hrL t p = nI 100
  · skip
    refine x_val ek100 ?_
    refine x_tableIn 101 dX5_wordHere_4 (by decide) (by decide) rfl (by decide) ?_
    refine x_aload_n dX5_wordHere_101 rfl rfl ?_
    refine x_ldcS dX5_wordHere_102 (List.mem_of_getElem? (i := 53) rfl) ?_
    refine x_iconst (nI 0) dX5_wordHere_104 (by decide) ?_
    refine x_cVI (t_word T I hp SG (i := 6) (f := 0) (by decide) (by decide)) okX5_word clX5 q2445 q2447 qs59 dX5_wordHere_105 (Or.inl T.1) rfl rfl (by decide) (Nat.zero_le _) (Nat.zero_le _) (Nat.le_of_ble_eq_true rfl) (fun _ => ?_)
    refine x_if_eqB 116 dX5_wordHere_108 (by decide) (fun e1 => ?_) (fun e1 => ?_)
    · skip
      have we1 : (wdS t (txl 6) p).1 = false := e1
      refine x_iconst (-1) dX5_wordHere_116 (by decide) ?_
      refine x_iret rfl dX5_wordHere_117 ?_
      have hk : hrL t p = 100 := ek100
      have hn103 : ¬ hrL t p = 103 := by rw [hk]; decide
      have hn109 : ¬ hrL t p = 109 := by rw [hk]; decide
      have hn106 : ¬ hrL t p = 106 := by rw [hk]; decide
      have hn111 : ¬ hrL t p = 111 := by rw [hk]; decide
      have hn114 : ¬ hrL t p = 114 := by rw [hk]; decide
      have hn115 : ¬ hrL t p = 115 := by rw [hk]; decide
      have hr : whS t p = (-1, (wdS t (txl 6) p).2) := by
        unfold whS
        rw [if_neg (show ¬ hrL t p = 103 from hn103), if_pos (show hrL t p = 100 from hk)]
        show (if (wdS t (txl 6) p).1 = true then (100 : Int32) else -1, (wdS t (txl 6) p).2) = _
        rw [if_neg (by rw [we1]; decide)]
      rw [hr]
      exact ⟨rfl, rfl⟩
    · skip
      have we1 : (wdS t (txl 6) p).1 = true := e1
      refine x_bipush (nI 100) dX5_wordHere_111 (by decide) ?_
      refine x_goto 117 dX5_wordHere_113 (by decide) ?_
      refine x_iret rfl dX5_wordHere_117 ?_
      have hk : hrL t p = 100 := ek100
      have hn103 : ¬ hrL t p = 103 := by rw [hk]; decide
      have hn109 : ¬ hrL t p = 109 := by rw [hk]; decide
      have hn106 : ¬ hrL t p = 106 := by rw [hk]; decide
      have hn111 : ¬ hrL t p = 111 := by rw [hk]; decide
      have hn114 : ¬ hrL t p = 114 := by rw [hk]; decide
      have hn115 : ¬ hrL t p = 115 := by rw [hk]; decide
      have hr : whS t p = (100, (wdS t (txl 6) p).2) := by
        unfold whS
        rw [if_neg (show ¬ hrL t p = 103 from hn103), if_pos (show hrL t p = 100 from hk)]
        show (if (wdS t (txl 6) p).1 = true then (100 : Int32) else -1, (wdS t (txl 6) p).2) = _
        rw [if_pos we1]
      rw [hr]
      exact ⟨rfl, rfl⟩
  by_cases ek101 : hrL t p = nI 101
  · skip
    refine x_val ek101 ?_
    refine x_tableIn 189 dX5_wordHere_4 (by decide) (by decide) rfl (by decide) ?_
    refine x_iconst (-1) dX5_wordHere_189 (by decide) ?_
    refine x_iret rfl dX5_wordHere_190 ?_
    have hk : hrL t p = 101 := ek101
    have hn103 : ¬ hrL t p = 103 := by rw [hk]; decide
    have hn100 : ¬ hrL t p = 100 := by rw [hk]; decide
    have hn109 : ¬ hrL t p = 109 := by rw [hk]; decide
    have hn106 : ¬ hrL t p = 106 := by rw [hk]; decide
    have hn111 : ¬ hrL t p = 111 := by rw [hk]; decide
    have hn114 : ¬ hrL t p = 114 := by rw [hk]; decide
    have hn115 : ¬ hrL t p = 115 := by rw [hk]; decide
    have hr : whS t p = (-1, p) := by unfold whS; rw [if_neg (show ¬ hrL t p = 103 from hn103), if_neg (show ¬ hrL t p = 100 from hn100), if_neg (show ¬ hrL t p = 109 from hn109), if_neg (show ¬ hrL t p = 106 from hn106), if_neg (show ¬ hrL t p = 111 from hn111), if_neg (show ¬ hrL t p = 114 from hn114), if_pos (show ¬ hrL t p = 115 from hn115)]
    rw [hr]
    exact ⟨rfl, rfl⟩
  by_cases ek102 : hrL t p = nI 102
  · skip
    refine x_val ek102 ?_
    refine x_tableIn 189 dX5_wordHere_4 (by decide) (by decide) rfl (by decide) ?_
    refine x_iconst (-1) dX5_wordHere_189 (by decide) ?_
    refine x_iret rfl dX5_wordHere_190 ?_
    have hk : hrL t p = 102 := ek102
    have hn103 : ¬ hrL t p = 103 := by rw [hk]; decide
    have hn100 : ¬ hrL t p = 100 := by rw [hk]; decide
    have hn109 : ¬ hrL t p = 109 := by rw [hk]; decide
    have hn106 : ¬ hrL t p = 106 := by rw [hk]; decide
    have hn111 : ¬ hrL t p = 111 := by rw [hk]; decide
    have hn114 : ¬ hrL t p = 114 := by rw [hk]; decide
    have hn115 : ¬ hrL t p = 115 := by rw [hk]; decide
    have hr : whS t p = (-1, p) := by unfold whS; rw [if_neg (show ¬ hrL t p = 103 from hn103), if_neg (show ¬ hrL t p = 100 from hn100), if_neg (show ¬ hrL t p = 109 from hn109), if_neg (show ¬ hrL t p = 106 from hn106), if_neg (show ¬ hrL t p = 111 from hn111), if_neg (show ¬ hrL t p = 114 from hn114), if_pos (show ¬ hrL t p = 115 from hn115)]
    rw [hr]
    exact ⟨rfl, rfl⟩
  by_cases ek103 : hrL t p = nI 103
  · skip
    refine x_val ek103 ?_
    refine x_tableIn 84 dX5_wordHere_4 (by decide) (by decide) rfl (by decide) ?_
    refine x_aload_n dX5_wordHere_84 rfl rfl ?_
    refine x_ldcS dX5_wordHere_85 (List.mem_of_getElem? (i := 52) rfl) ?_
    refine x_iconst (nI 0) dX5_wordHere_87 (by decide) ?_
    refine x_cVI (t_word T I hp SG (i := 5) (f := 0) (by decide) (by decide)) okX5_word clX5 q2445 q2447 qs59 dX5_wordHere_88 (Or.inl T.1) rfl rfl (by decide) (Nat.zero_le _) (Nat.zero_le _) (Nat.le_of_ble_eq_true rfl) (fun _ => ?_)
    refine x_if_eqB 99 dX5_wordHere_91 (by decide) (fun e2 => ?_) (fun e2 => ?_)
    · skip
      have we2 : (wdS t (txl 5) p).1 = false := e2
      refine x_iconst (-1) dX5_wordHere_99 (by decide) ?_
      refine x_iret rfl dX5_wordHere_100 ?_
      have hk : hrL t p = 103 := ek103
      have hn100 : ¬ hrL t p = 100 := by rw [hk]; decide
      have hn109 : ¬ hrL t p = 109 := by rw [hk]; decide
      have hn106 : ¬ hrL t p = 106 := by rw [hk]; decide
      have hn111 : ¬ hrL t p = 111 := by rw [hk]; decide
      have hn114 : ¬ hrL t p = 114 := by rw [hk]; decide
      have hn115 : ¬ hrL t p = 115 := by rw [hk]; decide
      have hr : whS t p = (-1, (wdS t (txl 5) p).2) := by
        unfold whS
        rw [if_pos (show hrL t p = 103 from hk)]
        show (if (wdS t (txl 5) p).1 = true then (103 : Int32) else -1, (wdS t (txl 5) p).2) = _
        rw [if_neg (by rw [we2]; decide)]
      rw [hr]
      exact ⟨rfl, rfl⟩
    · skip
      have we2 : (wdS t (txl 5) p).1 = true := e2
      refine x_bipush (nI 103) dX5_wordHere_94 (by decide) ?_
      refine x_goto 100 dX5_wordHere_96 (by decide) ?_
      refine x_iret rfl dX5_wordHere_100 ?_
      have hk : hrL t p = 103 := ek103
      have hn100 : ¬ hrL t p = 100 := by rw [hk]; decide
      have hn109 : ¬ hrL t p = 109 := by rw [hk]; decide
      have hn106 : ¬ hrL t p = 106 := by rw [hk]; decide
      have hn111 : ¬ hrL t p = 111 := by rw [hk]; decide
      have hn114 : ¬ hrL t p = 114 := by rw [hk]; decide
      have hn115 : ¬ hrL t p = 115 := by rw [hk]; decide
      have hr : whS t p = (103, (wdS t (txl 5) p).2) := by
        unfold whS
        rw [if_pos (show hrL t p = 103 from hk)]
        show (if (wdS t (txl 5) p).1 = true then (103 : Int32) else -1, (wdS t (txl 5) p).2) = _
        rw [if_pos we2]
      rw [hr]
      exact ⟨rfl, rfl⟩
  by_cases ek104 : hrL t p = nI 104
  · skip
    refine x_val ek104 ?_
    refine x_tableIn 189 dX5_wordHere_4 (by decide) (by decide) rfl (by decide) ?_
    refine x_iconst (-1) dX5_wordHere_189 (by decide) ?_
    refine x_iret rfl dX5_wordHere_190 ?_
    have hk : hrL t p = 104 := ek104
    have hn103 : ¬ hrL t p = 103 := by rw [hk]; decide
    have hn100 : ¬ hrL t p = 100 := by rw [hk]; decide
    have hn109 : ¬ hrL t p = 109 := by rw [hk]; decide
    have hn106 : ¬ hrL t p = 106 := by rw [hk]; decide
    have hn111 : ¬ hrL t p = 111 := by rw [hk]; decide
    have hn114 : ¬ hrL t p = 114 := by rw [hk]; decide
    have hn115 : ¬ hrL t p = 115 := by rw [hk]; decide
    have hr : whS t p = (-1, p) := by unfold whS; rw [if_neg (show ¬ hrL t p = 103 from hn103), if_neg (show ¬ hrL t p = 100 from hn100), if_neg (show ¬ hrL t p = 109 from hn109), if_neg (show ¬ hrL t p = 106 from hn106), if_neg (show ¬ hrL t p = 111 from hn111), if_neg (show ¬ hrL t p = 114 from hn114), if_pos (show ¬ hrL t p = 115 from hn115)]
    rw [hr]
    exact ⟨rfl, rfl⟩
  by_cases ek105 : hrL t p = nI 105
  · skip
    refine x_val ek105 ?_
    refine x_tableIn 189 dX5_wordHere_4 (by decide) (by decide) rfl (by decide) ?_
    refine x_iconst (-1) dX5_wordHere_189 (by decide) ?_
    refine x_iret rfl dX5_wordHere_190 ?_
    have hk : hrL t p = 105 := ek105
    have hn103 : ¬ hrL t p = 103 := by rw [hk]; decide
    have hn100 : ¬ hrL t p = 100 := by rw [hk]; decide
    have hn109 : ¬ hrL t p = 109 := by rw [hk]; decide
    have hn106 : ¬ hrL t p = 106 := by rw [hk]; decide
    have hn111 : ¬ hrL t p = 111 := by rw [hk]; decide
    have hn114 : ¬ hrL t p = 114 := by rw [hk]; decide
    have hn115 : ¬ hrL t p = 115 := by rw [hk]; decide
    have hr : whS t p = (-1, p) := by unfold whS; rw [if_neg (show ¬ hrL t p = 103 from hn103), if_neg (show ¬ hrL t p = 100 from hn100), if_neg (show ¬ hrL t p = 109 from hn109), if_neg (show ¬ hrL t p = 106 from hn106), if_neg (show ¬ hrL t p = 111 from hn111), if_neg (show ¬ hrL t p = 114 from hn114), if_pos (show ¬ hrL t p = 115 from hn115)]
    rw [hr]
    exact ⟨rfl, rfl⟩
  by_cases ek106 : hrL t p = nI 106
  · skip
    refine x_val ek106 ?_
    refine x_tableIn 135 dX5_wordHere_4 (by decide) (by decide) rfl (by decide) ?_
    refine x_aload_n dX5_wordHere_135 rfl rfl ?_
    refine x_ldcS dX5_wordHere_136 (List.mem_of_getElem? (i := 55) rfl) ?_
    refine x_iconst (nI 0) dX5_wordHere_138 (by decide) ?_
    refine x_cVI (t_word T I hp SG (i := 8) (f := 0) (by decide) (by decide)) okX5_word clX5 q2445 q2447 qs59 dX5_wordHere_139 (Or.inl T.1) rfl rfl (by decide) (Nat.zero_le _) (Nat.zero_le _) (Nat.le_of_ble_eq_true rfl) (fun _ => ?_)
    refine x_if_eqB 150 dX5_wordHere_142 (by decide) (fun e3 => ?_) (fun e3 => ?_)
    · skip
      have we3 : (wdS t (txl 8) p).1 = false := e3
      refine x_iconst (-1) dX5_wordHere_150 (by decide) ?_
      refine x_iret rfl dX5_wordHere_151 ?_
      have hk : hrL t p = 106 := ek106
      have hn103 : ¬ hrL t p = 103 := by rw [hk]; decide
      have hn100 : ¬ hrL t p = 100 := by rw [hk]; decide
      have hn109 : ¬ hrL t p = 109 := by rw [hk]; decide
      have hn111 : ¬ hrL t p = 111 := by rw [hk]; decide
      have hn114 : ¬ hrL t p = 114 := by rw [hk]; decide
      have hn115 : ¬ hrL t p = 115 := by rw [hk]; decide
      have hr : whS t p = (-1, (wdS t (txl 8) p).2) := by
        unfold whS
        rw [if_neg (show ¬ hrL t p = 103 from hn103), if_neg (show ¬ hrL t p = 100 from hn100), if_neg (show ¬ hrL t p = 109 from hn109), if_pos (show hrL t p = 106 from hk)]
        show (if (wdS t (txl 8) p).1 = true then (106 : Int32) else -1, (wdS t (txl 8) p).2) = _
        rw [if_neg (by rw [we3]; decide)]
      rw [hr]
      exact ⟨rfl, rfl⟩
    · skip
      have we3 : (wdS t (txl 8) p).1 = true := e3
      refine x_bipush (nI 106) dX5_wordHere_145 (by decide) ?_
      refine x_goto 151 dX5_wordHere_147 (by decide) ?_
      refine x_iret rfl dX5_wordHere_151 ?_
      have hk : hrL t p = 106 := ek106
      have hn103 : ¬ hrL t p = 103 := by rw [hk]; decide
      have hn100 : ¬ hrL t p = 100 := by rw [hk]; decide
      have hn109 : ¬ hrL t p = 109 := by rw [hk]; decide
      have hn111 : ¬ hrL t p = 111 := by rw [hk]; decide
      have hn114 : ¬ hrL t p = 114 := by rw [hk]; decide
      have hn115 : ¬ hrL t p = 115 := by rw [hk]; decide
      have hr : whS t p = (106, (wdS t (txl 8) p).2) := by
        unfold whS
        rw [if_neg (show ¬ hrL t p = 103 from hn103), if_neg (show ¬ hrL t p = 100 from hn100), if_neg (show ¬ hrL t p = 109 from hn109), if_pos (show hrL t p = 106 from hk)]
        show (if (wdS t (txl 8) p).1 = true then (106 : Int32) else -1, (wdS t (txl 8) p).2) = _
        rw [if_pos we3]
      rw [hr]
      exact ⟨rfl, rfl⟩
  by_cases ek107 : hrL t p = nI 107
  · skip
    refine x_val ek107 ?_
    refine x_tableIn 189 dX5_wordHere_4 (by decide) (by decide) rfl (by decide) ?_
    refine x_iconst (-1) dX5_wordHere_189 (by decide) ?_
    refine x_iret rfl dX5_wordHere_190 ?_
    have hk : hrL t p = 107 := ek107
    have hn103 : ¬ hrL t p = 103 := by rw [hk]; decide
    have hn100 : ¬ hrL t p = 100 := by rw [hk]; decide
    have hn109 : ¬ hrL t p = 109 := by rw [hk]; decide
    have hn106 : ¬ hrL t p = 106 := by rw [hk]; decide
    have hn111 : ¬ hrL t p = 111 := by rw [hk]; decide
    have hn114 : ¬ hrL t p = 114 := by rw [hk]; decide
    have hn115 : ¬ hrL t p = 115 := by rw [hk]; decide
    have hr : whS t p = (-1, p) := by unfold whS; rw [if_neg (show ¬ hrL t p = 103 from hn103), if_neg (show ¬ hrL t p = 100 from hn100), if_neg (show ¬ hrL t p = 109 from hn109), if_neg (show ¬ hrL t p = 106 from hn106), if_neg (show ¬ hrL t p = 111 from hn111), if_neg (show ¬ hrL t p = 114 from hn114), if_pos (show ¬ hrL t p = 115 from hn115)]
    rw [hr]
    exact ⟨rfl, rfl⟩
  by_cases ek108 : hrL t p = nI 108
  · skip
    refine x_val ek108 ?_
    refine x_tableIn 189 dX5_wordHere_4 (by decide) (by decide) rfl (by decide) ?_
    refine x_iconst (-1) dX5_wordHere_189 (by decide) ?_
    refine x_iret rfl dX5_wordHere_190 ?_
    have hk : hrL t p = 108 := ek108
    have hn103 : ¬ hrL t p = 103 := by rw [hk]; decide
    have hn100 : ¬ hrL t p = 100 := by rw [hk]; decide
    have hn109 : ¬ hrL t p = 109 := by rw [hk]; decide
    have hn106 : ¬ hrL t p = 106 := by rw [hk]; decide
    have hn111 : ¬ hrL t p = 111 := by rw [hk]; decide
    have hn114 : ¬ hrL t p = 114 := by rw [hk]; decide
    have hn115 : ¬ hrL t p = 115 := by rw [hk]; decide
    have hr : whS t p = (-1, p) := by unfold whS; rw [if_neg (show ¬ hrL t p = 103 from hn103), if_neg (show ¬ hrL t p = 100 from hn100), if_neg (show ¬ hrL t p = 109 from hn109), if_neg (show ¬ hrL t p = 106 from hn106), if_neg (show ¬ hrL t p = 111 from hn111), if_neg (show ¬ hrL t p = 114 from hn114), if_pos (show ¬ hrL t p = 115 from hn115)]
    rw [hr]
    exact ⟨rfl, rfl⟩
  by_cases ek109 : hrL t p = nI 109
  · skip
    refine x_val ek109 ?_
    refine x_tableIn 118 dX5_wordHere_4 (by decide) (by decide) rfl (by decide) ?_
    refine x_aload_n dX5_wordHere_118 rfl rfl ?_
    refine x_ldcS dX5_wordHere_119 (List.mem_of_getElem? (i := 54) rfl) ?_
    refine x_iconst (nI 0) dX5_wordHere_121 (by decide) ?_
    refine x_cVI (t_word T I hp SG (i := 7) (f := 0) (by decide) (by decide)) okX5_word clX5 q2445 q2447 qs59 dX5_wordHere_122 (Or.inl T.1) rfl rfl (by decide) (Nat.zero_le _) (Nat.zero_le _) (Nat.le_of_ble_eq_true rfl) (fun _ => ?_)
    refine x_if_eqB 133 dX5_wordHere_125 (by decide) (fun e4 => ?_) (fun e4 => ?_)
    · skip
      have we4 : (wdS t (txl 7) p).1 = false := e4
      refine x_iconst (-1) dX5_wordHere_133 (by decide) ?_
      refine x_iret rfl dX5_wordHere_134 ?_
      have hk : hrL t p = 109 := ek109
      have hn103 : ¬ hrL t p = 103 := by rw [hk]; decide
      have hn100 : ¬ hrL t p = 100 := by rw [hk]; decide
      have hn106 : ¬ hrL t p = 106 := by rw [hk]; decide
      have hn111 : ¬ hrL t p = 111 := by rw [hk]; decide
      have hn114 : ¬ hrL t p = 114 := by rw [hk]; decide
      have hn115 : ¬ hrL t p = 115 := by rw [hk]; decide
      have hr : whS t p = (-1, (wdS t (txl 7) p).2) := by
        unfold whS
        rw [if_neg (show ¬ hrL t p = 103 from hn103), if_neg (show ¬ hrL t p = 100 from hn100), if_pos (show hrL t p = 109 from hk)]
        show (if (wdS t (txl 7) p).1 = true then (109 : Int32) else -1, (wdS t (txl 7) p).2) = _
        rw [if_neg (by rw [we4]; decide)]
      rw [hr]
      exact ⟨rfl, rfl⟩
    · skip
      have we4 : (wdS t (txl 7) p).1 = true := e4
      refine x_bipush (nI 109) dX5_wordHere_128 (by decide) ?_
      refine x_goto 134 dX5_wordHere_130 (by decide) ?_
      refine x_iret rfl dX5_wordHere_134 ?_
      have hk : hrL t p = 109 := ek109
      have hn103 : ¬ hrL t p = 103 := by rw [hk]; decide
      have hn100 : ¬ hrL t p = 100 := by rw [hk]; decide
      have hn106 : ¬ hrL t p = 106 := by rw [hk]; decide
      have hn111 : ¬ hrL t p = 111 := by rw [hk]; decide
      have hn114 : ¬ hrL t p = 114 := by rw [hk]; decide
      have hn115 : ¬ hrL t p = 115 := by rw [hk]; decide
      have hr : whS t p = (109, (wdS t (txl 7) p).2) := by
        unfold whS
        rw [if_neg (show ¬ hrL t p = 103 from hn103), if_neg (show ¬ hrL t p = 100 from hn100), if_pos (show hrL t p = 109 from hk)]
        show (if (wdS t (txl 7) p).1 = true then (109 : Int32) else -1, (wdS t (txl 7) p).2) = _
        rw [if_pos we4]
      rw [hr]
      exact ⟨rfl, rfl⟩
  by_cases ek110 : hrL t p = nI 110
  · skip
    refine x_val ek110 ?_
    refine x_tableIn 189 dX5_wordHere_4 (by decide) (by decide) rfl (by decide) ?_
    refine x_iconst (-1) dX5_wordHere_189 (by decide) ?_
    refine x_iret rfl dX5_wordHere_190 ?_
    have hk : hrL t p = 110 := ek110
    have hn103 : ¬ hrL t p = 103 := by rw [hk]; decide
    have hn100 : ¬ hrL t p = 100 := by rw [hk]; decide
    have hn109 : ¬ hrL t p = 109 := by rw [hk]; decide
    have hn106 : ¬ hrL t p = 106 := by rw [hk]; decide
    have hn111 : ¬ hrL t p = 111 := by rw [hk]; decide
    have hn114 : ¬ hrL t p = 114 := by rw [hk]; decide
    have hn115 : ¬ hrL t p = 115 := by rw [hk]; decide
    have hr : whS t p = (-1, p) := by unfold whS; rw [if_neg (show ¬ hrL t p = 103 from hn103), if_neg (show ¬ hrL t p = 100 from hn100), if_neg (show ¬ hrL t p = 109 from hn109), if_neg (show ¬ hrL t p = 106 from hn106), if_neg (show ¬ hrL t p = 111 from hn111), if_neg (show ¬ hrL t p = 114 from hn114), if_pos (show ¬ hrL t p = 115 from hn115)]
    rw [hr]
    exact ⟨rfl, rfl⟩
  by_cases ek111 : hrL t p = nI 111
  · skip
    refine x_val ek111 ?_
    refine x_tableIn 152 dX5_wordHere_4 (by decide) (by decide) rfl (by decide) ?_
    refine x_aload_n dX5_wordHere_152 rfl rfl ?_
    refine x_ldcS dX5_wordHere_153 (List.mem_of_getElem? (i := 47) rfl) ?_
    refine x_iconst (nI 0) dX5_wordHere_155 (by decide) ?_
    refine x_cVI (t_word T I hp SG (i := 9) (f := 0) (by decide) (by decide)) okX5_word clX5 q2445 q2447 qs59 dX5_wordHere_156 (Or.inl T.1) rfl rfl (by decide) (Nat.zero_le _) (Nat.zero_le _) (Nat.le_of_ble_eq_true rfl) (fun _ => ?_)
    refine x_if_eqB 167 dX5_wordHere_159 (by decide) (fun e5 => ?_) (fun e5 => ?_)
    · skip
      have we5 : (wdS t (txl 9) p).1 = false := e5
      refine x_iconst (-1) dX5_wordHere_167 (by decide) ?_
      refine x_iret rfl dX5_wordHere_168 ?_
      have hk : hrL t p = 111 := ek111
      have hn103 : ¬ hrL t p = 103 := by rw [hk]; decide
      have hn100 : ¬ hrL t p = 100 := by rw [hk]; decide
      have hn109 : ¬ hrL t p = 109 := by rw [hk]; decide
      have hn106 : ¬ hrL t p = 106 := by rw [hk]; decide
      have hn114 : ¬ hrL t p = 114 := by rw [hk]; decide
      have hn115 : ¬ hrL t p = 115 := by rw [hk]; decide
      have hr : whS t p = (-1, (wdS t (txl 9) p).2) := by
        unfold whS
        rw [if_neg (show ¬ hrL t p = 103 from hn103), if_neg (show ¬ hrL t p = 100 from hn100), if_neg (show ¬ hrL t p = 109 from hn109), if_neg (show ¬ hrL t p = 106 from hn106), if_pos (show hrL t p = 111 from hk)]
        show (if (wdS t (txl 9) p).1 = true then (111 : Int32) else -1, (wdS t (txl 9) p).2) = _
        rw [if_neg (by rw [we5]; decide)]
      rw [hr]
      exact ⟨rfl, rfl⟩
    · skip
      have we5 : (wdS t (txl 9) p).1 = true := e5
      refine x_bipush (nI 111) dX5_wordHere_162 (by decide) ?_
      refine x_goto 168 dX5_wordHere_164 (by decide) ?_
      refine x_iret rfl dX5_wordHere_168 ?_
      have hk : hrL t p = 111 := ek111
      have hn103 : ¬ hrL t p = 103 := by rw [hk]; decide
      have hn100 : ¬ hrL t p = 100 := by rw [hk]; decide
      have hn109 : ¬ hrL t p = 109 := by rw [hk]; decide
      have hn106 : ¬ hrL t p = 106 := by rw [hk]; decide
      have hn114 : ¬ hrL t p = 114 := by rw [hk]; decide
      have hn115 : ¬ hrL t p = 115 := by rw [hk]; decide
      have hr : whS t p = (111, (wdS t (txl 9) p).2) := by
        unfold whS
        rw [if_neg (show ¬ hrL t p = 103 from hn103), if_neg (show ¬ hrL t p = 100 from hn100), if_neg (show ¬ hrL t p = 109 from hn109), if_neg (show ¬ hrL t p = 106 from hn106), if_pos (show hrL t p = 111 from hk)]
        show (if (wdS t (txl 9) p).1 = true then (111 : Int32) else -1, (wdS t (txl 9) p).2) = _
        rw [if_pos we5]
      rw [hr]
      exact ⟨rfl, rfl⟩
  by_cases ek112 : hrL t p = nI 112
  · skip
    refine x_val ek112 ?_
    refine x_tableIn 189 dX5_wordHere_4 (by decide) (by decide) rfl (by decide) ?_
    refine x_iconst (-1) dX5_wordHere_189 (by decide) ?_
    refine x_iret rfl dX5_wordHere_190 ?_
    have hk : hrL t p = 112 := ek112
    have hn103 : ¬ hrL t p = 103 := by rw [hk]; decide
    have hn100 : ¬ hrL t p = 100 := by rw [hk]; decide
    have hn109 : ¬ hrL t p = 109 := by rw [hk]; decide
    have hn106 : ¬ hrL t p = 106 := by rw [hk]; decide
    have hn111 : ¬ hrL t p = 111 := by rw [hk]; decide
    have hn114 : ¬ hrL t p = 114 := by rw [hk]; decide
    have hn115 : ¬ hrL t p = 115 := by rw [hk]; decide
    have hr : whS t p = (-1, p) := by unfold whS; rw [if_neg (show ¬ hrL t p = 103 from hn103), if_neg (show ¬ hrL t p = 100 from hn100), if_neg (show ¬ hrL t p = 109 from hn109), if_neg (show ¬ hrL t p = 106 from hn106), if_neg (show ¬ hrL t p = 111 from hn111), if_neg (show ¬ hrL t p = 114 from hn114), if_pos (show ¬ hrL t p = 115 from hn115)]
    rw [hr]
    exact ⟨rfl, rfl⟩
  by_cases ek113 : hrL t p = nI 113
  · skip
    refine x_val ek113 ?_
    refine x_tableIn 189 dX5_wordHere_4 (by decide) (by decide) rfl (by decide) ?_
    refine x_iconst (-1) dX5_wordHere_189 (by decide) ?_
    refine x_iret rfl dX5_wordHere_190 ?_
    have hk : hrL t p = 113 := ek113
    have hn103 : ¬ hrL t p = 103 := by rw [hk]; decide
    have hn100 : ¬ hrL t p = 100 := by rw [hk]; decide
    have hn109 : ¬ hrL t p = 109 := by rw [hk]; decide
    have hn106 : ¬ hrL t p = 106 := by rw [hk]; decide
    have hn111 : ¬ hrL t p = 111 := by rw [hk]; decide
    have hn114 : ¬ hrL t p = 114 := by rw [hk]; decide
    have hn115 : ¬ hrL t p = 115 := by rw [hk]; decide
    have hr : whS t p = (-1, p) := by unfold whS; rw [if_neg (show ¬ hrL t p = 103 from hn103), if_neg (show ¬ hrL t p = 100 from hn100), if_neg (show ¬ hrL t p = 109 from hn109), if_neg (show ¬ hrL t p = 106 from hn106), if_neg (show ¬ hrL t p = 111 from hn111), if_neg (show ¬ hrL t p = 114 from hn114), if_pos (show ¬ hrL t p = 115 from hn115)]
    rw [hr]
    exact ⟨rfl, rfl⟩
  by_cases ek114 : hrL t p = nI 114
  · skip
    refine x_val ek114 ?_
    refine x_tableIn 169 dX5_wordHere_4 (by decide) (by decide) rfl (by decide) ?_
    refine x_aload_n dX5_wordHere_169 rfl rfl ?_
    refine x_ldcS dX5_wordHere_170 (List.mem_of_getElem? (i := 56) rfl) ?_
    refine x_iconst (nI 0) dX5_wordHere_172 (by decide) ?_
    refine x_cVI (t_word T I hp SG (i := 12) (f := 0) (by decide) (by decide)) okX5_word clX5 q2445 q2447 qs59 dX5_wordHere_173 (Or.inl T.1) rfl rfl (by decide) (Nat.zero_le _) (Nat.zero_le _) (Nat.le_of_ble_eq_true rfl) (fun _ => ?_)
    refine x_if_eqB 184 dX5_wordHere_176 (by decide) (fun e6 => ?_) (fun e6 => ?_)
    · skip
      have we6 : (wdS t (txl 12) p).1 = false := e6
      refine x_iconst (-1) dX5_wordHere_184 (by decide) ?_
      refine x_iret rfl dX5_wordHere_185 ?_
      have hk : hrL t p = 114 := ek114
      have hn103 : ¬ hrL t p = 103 := by rw [hk]; decide
      have hn100 : ¬ hrL t p = 100 := by rw [hk]; decide
      have hn109 : ¬ hrL t p = 109 := by rw [hk]; decide
      have hn106 : ¬ hrL t p = 106 := by rw [hk]; decide
      have hn111 : ¬ hrL t p = 111 := by rw [hk]; decide
      have hn115 : ¬ hrL t p = 115 := by rw [hk]; decide
      have hr : whS t p = (-1, (wdS t (txl 12) p).2) := by
        unfold whS
        rw [if_neg (show ¬ hrL t p = 103 from hn103), if_neg (show ¬ hrL t p = 100 from hn100), if_neg (show ¬ hrL t p = 109 from hn109), if_neg (show ¬ hrL t p = 106 from hn106), if_neg (show ¬ hrL t p = 111 from hn111), if_pos (show hrL t p = 114 from hk)]
        show (if (wdS t (txl 12) p).1 = true then (114 : Int32) else -1, (wdS t (txl 12) p).2) = _
        rw [if_neg (by rw [we6]; decide)]
      rw [hr]
      exact ⟨rfl, rfl⟩
    · skip
      have we6 : (wdS t (txl 12) p).1 = true := e6
      refine x_bipush (nI 114) dX5_wordHere_179 (by decide) ?_
      refine x_goto 185 dX5_wordHere_181 (by decide) ?_
      refine x_iret rfl dX5_wordHere_185 ?_
      have hk : hrL t p = 114 := ek114
      have hn103 : ¬ hrL t p = 103 := by rw [hk]; decide
      have hn100 : ¬ hrL t p = 100 := by rw [hk]; decide
      have hn109 : ¬ hrL t p = 109 := by rw [hk]; decide
      have hn106 : ¬ hrL t p = 106 := by rw [hk]; decide
      have hn111 : ¬ hrL t p = 111 := by rw [hk]; decide
      have hn115 : ¬ hrL t p = 115 := by rw [hk]; decide
      have hr : whS t p = (114, (wdS t (txl 12) p).2) := by
        unfold whS
        rw [if_neg (show ¬ hrL t p = 103 from hn103), if_neg (show ¬ hrL t p = 100 from hn100), if_neg (show ¬ hrL t p = 109 from hn109), if_neg (show ¬ hrL t p = 106 from hn106), if_neg (show ¬ hrL t p = 111 from hn111), if_pos (show hrL t p = 114 from hk)]
        show (if (wdS t (txl 12) p).1 = true then (114 : Int32) else -1, (wdS t (txl 12) p).2) = _
        rw [if_pos we6]
      rw [hr]
      exact ⟨rfl, rfl⟩
  by_cases ek115 : hrL t p = nI 115
  · skip
    refine x_val ek115 ?_
    refine x_tableIn 186 dX5_wordHere_4 (by decide) (by decide) rfl (by decide) ?_
    refine x_goto 191 dX5_wordHere_186 (by decide) ?_
    refine x_aload_n dX5_wordHere_191 rfl rfl ?_
    refine x_ldcS dX5_wordHere_192 (List.mem_of_getElem? (i := 57) rfl) ?_
    refine x_iconst (nI 0) dX5_wordHere_194 (by decide) ?_
    refine x_cVI (t_word T I hp SG (i := 25) (f := 0) (by decide) (by decide)) okX5_word clX5 q2445 q2447 qs59 dX5_wordHere_195 (Or.inl T.1) rfl rfl (by decide) (Nat.zero_le _) (Nat.zero_le _) (Nat.le_of_ble_eq_true rfl) (fun _ => ?_)
    refine x_if_neB 203 dX5_wordHere_198 (by decide) (fun e7 => ?_) (fun e7 => ?_)
    · skip
      have we7 : (wdS t (txl 25) p).1 = true := e7
      refine x_aload_n dX5_wordHere_203 rfl rfl ?_
      refine x_bipush (nI 108) dX5_wordHere_204 (by decide) ?_
      refine x_cVI (t_skips T I (wdS_le (txl_ok 25 (by decide)) hp).2.1) okX5_skips clX5 q2449 q2451 qs60 dX5_wordHere_206 (Or.inl T.1) rfl rfl (by decide) (Nat.zero_le _) (Nat.zero_le _) (Nat.le_of_ble_eq_true rfl) (fun _ => ?_)
      refine x_if_eqB 231 dX5_wordHere_209 (by decide) (fun e8 => ?_) (fun e8 => ?_)
      · skip
        have s8 := of_decide_eq_false e8
        refine x_eq (h' := rdH h a g S V ((wdS t (txl 25) p).2) m F) (by rw [if_neg s8]) rfl rfl ?_
        refine x_aload_n dX5_wordHere_231 rfl rfl ?_
        refine x_ldcS dX5_wordHere_232 (List.mem_of_getElem? (i := 59) rfl) ?_
        refine x_iconst (nI 2) dX5_wordHere_234 (by decide) ?_
        refine x_cVI (t_word T I (wdS_le (txl_ok 25 (by decide)) hp).2.1 SG (i := 11) (f := 2) (by decide) (by decide)) okX5_word clX5 q2445 q2447 qs59 dX5_wordHere_235 (Or.inl T.1) rfl rfl (by decide) (Nat.zero_le _) (Nat.zero_le _) (Nat.le_of_ble_eq_true rfl) (fun _ => ?_)
        refine x_if_eqB 246 dX5_wordHere_238 (by decide) (fun e9 => ?_) (fun e9 => ?_)
        · skip
          have we9 : (wdS t ((txl 11).drop 2) ((wdS t (txl 25) p).2)).1 = false := e9
          refine x_iconst (-1) dX5_wordHere_246 (by decide) ?_
          refine x_iret rfl dX5_wordHere_247 ?_
          have hk : hrL t p = 115 := ek115
          have hn103 : ¬ hrL t p = 103 := by rw [hk]; decide
          have hn100 : ¬ hrL t p = 100 := by rw [hk]; decide
          have hn109 : ¬ hrL t p = 109 := by rw [hk]; decide
          have hn106 : ¬ hrL t p = 106 := by rw [hk]; decide
          have hn111 : ¬ hrL t p = 111 := by rw [hk]; decide
          have hn114 : ¬ hrL t p = 114 := by rw [hk]; decide
          have hr : whS t p = (-1, (wdS t ((txl 11).drop 2) (wdS t (txl 25) p).2).2) := by unfold whS; rw [if_neg (show ¬ hrL t p = 103 from hn103), if_neg (show ¬ hrL t p = 100 from hn100), if_neg (show ¬ hrL t p = 109 from hn109), if_neg (show ¬ hrL t p = 106 from hn106), if_neg (show ¬ hrL t p = 111 from hn111), if_neg (show ¬ hrL t p = 114 from hn114), if_neg (fun z => z (show hrL t p = 115 from hk)), if_neg (by rw [we7]; decide), if_neg (show ¬ hrL t (wdS t (txl 25) p).2 = 108 from of_decide_eq_false e8), if_neg (by rw [we9]; decide)]
          rw [hr]
          exact ⟨rfl, rfl⟩
        · skip
          have we9 : (wdS t ((txl 11).drop 2) ((wdS t (txl 25) p).2)).1 = true := e9
          refine x_bipush (nI 118) dX5_wordHere_241 (by decide) ?_
          refine x_goto 247 dX5_wordHere_243 (by decide) ?_
          refine x_iret rfl dX5_wordHere_247 ?_
          have hk : hrL t p = 115 := ek115
          have hn103 : ¬ hrL t p = 103 := by rw [hk]; decide
          have hn100 : ¬ hrL t p = 100 := by rw [hk]; decide
          have hn109 : ¬ hrL t p = 109 := by rw [hk]; decide
          have hn106 : ¬ hrL t p = 106 := by rw [hk]; decide
          have hn111 : ¬ hrL t p = 111 := by rw [hk]; decide
          have hn114 : ¬ hrL t p = 114 := by rw [hk]; decide
          have hr : whS t p = (118, (wdS t ((txl 11).drop 2) (wdS t (txl 25) p).2).2) := by unfold whS; rw [if_neg (show ¬ hrL t p = 103 from hn103), if_neg (show ¬ hrL t p = 100 from hn100), if_neg (show ¬ hrL t p = 109 from hn109), if_neg (show ¬ hrL t p = 106 from hn106), if_neg (show ¬ hrL t p = 111 from hn111), if_neg (show ¬ hrL t p = 114 from hn114), if_neg (fun z => z (show hrL t p = 115 from hk)), if_neg (by rw [we7]; decide), if_neg (show ¬ hrL t (wdS t (txl 25) p).2 = 108 from of_decide_eq_false e8), if_pos we9]
          rw [hr]
          exact ⟨rfl, rfl⟩
      · skip
        have s8 := of_decide_eq_true e8
        refine x_eq (h' := rdH h a g S V (((wdS t (txl 25) p).2) + 1) m F) (by rw [if_pos s8]) rfl rfl ?_
        refine x_aload_n dX5_wordHere_212 rfl rfl ?_
        refine x_ldcS dX5_wordHere_213 (List.mem_of_getElem? (i := 58) rfl) ?_
        refine x_iconst (nI 3) dX5_wordHere_215 (by decide) ?_
        refine x_cVI (t_word T I (hrL_lt (of_decide_eq_true e8) (by decide)) SG (i := 10) (f := 3) (by decide) (by decide)) okX5_word clX5 q2445 q2447 qs59 dX5_wordHere_216 (Or.inl T.1) rfl rfl (by decide) (Nat.zero_le _) (Nat.zero_le _) (Nat.le_of_ble_eq_true rfl) (fun _ => ?_)
        refine x_if_eqB 227 dX5_wordHere_219 (by decide) (fun e10 => ?_) (fun e10 => ?_)
        · skip
          have we10 : (wdS t ((txl 10).drop 3) (((wdS t (txl 25) p).2) + 1)).1 = false := e10
          refine x_iconst (-1) dX5_wordHere_227 (by decide) ?_
          refine x_goto 247 dX5_wordHere_228 (by decide) ?_
          refine x_iret rfl dX5_wordHere_247 ?_
          have hk : hrL t p = 115 := ek115
          have hn103 : ¬ hrL t p = 103 := by rw [hk]; decide
          have hn100 : ¬ hrL t p = 100 := by rw [hk]; decide
          have hn109 : ¬ hrL t p = 109 := by rw [hk]; decide
          have hn106 : ¬ hrL t p = 106 := by rw [hk]; decide
          have hn111 : ¬ hrL t p = 111 := by rw [hk]; decide
          have hn114 : ¬ hrL t p = 114 := by rw [hk]; decide
          have hr : whS t p = (-1, (wdS t ((txl 10).drop 3) ((wdS t (txl 25) p).2 + 1)).2) := by unfold whS; rw [if_neg (show ¬ hrL t p = 103 from hn103), if_neg (show ¬ hrL t p = 100 from hn100), if_neg (show ¬ hrL t p = 109 from hn109), if_neg (show ¬ hrL t p = 106 from hn106), if_neg (show ¬ hrL t p = 111 from hn111), if_neg (show ¬ hrL t p = 114 from hn114), if_neg (fun z => z (show hrL t p = 115 from hk)), if_neg (by rw [we7]; decide), if_pos (show hrL t (wdS t (txl 25) p).2 = 108 from of_decide_eq_true e8), if_neg (by rw [we10]; decide)]
          rw [hr]
          exact ⟨rfl, rfl⟩
        · skip
          have we10 : (wdS t ((txl 10).drop 3) (((wdS t (txl 25) p).2) + 1)).1 = true := e10
          refine x_bipush (nI 101) dX5_wordHere_222 (by decide) ?_
          refine x_goto 247 dX5_wordHere_224 (by decide) ?_
          refine x_iret rfl dX5_wordHere_247 ?_
          have hk : hrL t p = 115 := ek115
          have hn103 : ¬ hrL t p = 103 := by rw [hk]; decide
          have hn100 : ¬ hrL t p = 100 := by rw [hk]; decide
          have hn109 : ¬ hrL t p = 109 := by rw [hk]; decide
          have hn106 : ¬ hrL t p = 106 := by rw [hk]; decide
          have hn111 : ¬ hrL t p = 111 := by rw [hk]; decide
          have hn114 : ¬ hrL t p = 114 := by rw [hk]; decide
          have hr : whS t p = (101, (wdS t ((txl 10).drop 3) ((wdS t (txl 25) p).2 + 1)).2) := by unfold whS; rw [if_neg (show ¬ hrL t p = 103 from hn103), if_neg (show ¬ hrL t p = 100 from hn100), if_neg (show ¬ hrL t p = 109 from hn109), if_neg (show ¬ hrL t p = 106 from hn106), if_neg (show ¬ hrL t p = 111 from hn111), if_neg (show ¬ hrL t p = 114 from hn114), if_neg (fun z => z (show hrL t p = 115 from hk)), if_neg (by rw [we7]; decide), if_pos (show hrL t (wdS t (txl 25) p).2 = 108 from of_decide_eq_true e8), if_pos we10]
          rw [hr]
          exact ⟨rfl, rfl⟩
    · skip
      have we7 : (wdS t (txl 25) p).1 = false := e7
      refine x_iconst (-1) dX5_wordHere_201 (by decide) ?_
      refine x_iret rfl dX5_wordHere_202 ?_
      have hk : hrL t p = 115 := ek115
      have hn103 : ¬ hrL t p = 103 := by rw [hk]; decide
      have hn100 : ¬ hrL t p = 100 := by rw [hk]; decide
      have hn109 : ¬ hrL t p = 109 := by rw [hk]; decide
      have hn106 : ¬ hrL t p = 106 := by rw [hk]; decide
      have hn111 : ¬ hrL t p = 111 := by rw [hk]; decide
      have hn114 : ¬ hrL t p = 114 := by rw [hk]; decide
      have hr : whS t p = (-1, (wdS t (txl 25) p).2) := by unfold whS; rw [if_neg (show ¬ hrL t p = 103 from hn103), if_neg (show ¬ hrL t p = 100 from hn100), if_neg (show ¬ hrL t p = 109 from hn109), if_neg (show ¬ hrL t p = 106 from hn106), if_neg (show ¬ hrL t p = 111 from hn111), if_neg (show ¬ hrL t p = 114 from hn114), if_neg (fun z => z (show hrL t p = 115 from hk)), if_pos we7]
      rw [hr]
      exact ⟨rfl, rfl⟩
  refine x_tableOut 189 dX5_wordHere_4 (ts_out 100 115 (by decide) (fun k h1 h2 z => by
    rcases (show k = 100 ∨ k = 101 ∨ k = 102 ∨ k = 103 ∨ k = 104 ∨ k = 105 ∨ k = 106 ∨ k = 107 ∨ k = 108 ∨ k = 109 ∨ k = 110 ∨ k = 111 ∨ k = 112 ∨ k = 113 ∨ k = 114 ∨ k = 115 by omega) with r | r | r | r | r | r | r | r | r | r | r | r | r | r | r | r
    · rw [r] at z; exact ek100 z
    · rw [r] at z; exact ek101 z
    · rw [r] at z; exact ek102 z
    · rw [r] at z; exact ek103 z
    · rw [r] at z; exact ek104 z
    · rw [r] at z; exact ek105 z
    · rw [r] at z; exact ek106 z
    · rw [r] at z; exact ek107 z
    · rw [r] at z; exact ek108 z
    · rw [r] at z; exact ek109 z
    · rw [r] at z; exact ek110 z
    · rw [r] at z; exact ek111 z
    · rw [r] at z; exact ek112 z
    · rw [r] at z; exact ek113 z
    · rw [r] at z; exact ek114 z
    · rw [r] at z; exact ek115 z
    )) (by decide) ?_
  refine x_iconst (-1) dX5_wordHere_189 (by decide) ?_
  refine x_iret rfl dX5_wordHere_190 ?_
  have hn103 : ¬ hrL t p = 103 := ek103
  have hn100 : ¬ hrL t p = 100 := ek100
  have hn109 : ¬ hrL t p = 109 := ek109
  have hn106 : ¬ hrL t p = 106 := ek106
  have hn111 : ¬ hrL t p = 111 := ek111
  have hn114 : ¬ hrL t p = 114 := ek114
  have hn115 : ¬ hrL t p = 115 := ek115
  have hr : whS t p = (-1, p) := by unfold whS; rw [if_neg (show ¬ hrL t p = 103 from hn103), if_neg (show ¬ hrL t p = 100 from hn100), if_neg (show ¬ hrL t p = 109 from hn109), if_neg (show ¬ hrL t p = 106 from hn106), if_neg (show ¬ hrL t p = 111 from hn111), if_neg (show ¬ hrL t p = 114 from hn114), if_pos (show ¬ hrL t p = 115 from hn115)]
  rw [hr]
  exact ⟨rfl, rfl⟩
theorem t_orderHere {G : GG} {h : AH} {a : Nat} {g : Nat → Int32} {S : Nat → Nat → Int32} {V : Nat → Int32} {t : List Int32} {p m : Nat} {F : Nat → Int32} (T : Tw h a) (I : InR S V t) (hp : p ≤ t.length) (hm : m ≤ 18) (SG : GSt G) : Cal G kX5_orderHere 6 0 0 [.ref a] (rdH h a g S V p m F) (rI (bB (ohS t p m F).1) (rdH h a g S V ((ohS t p m F).2.1) m ((ohS t p m F).2.2))) := by
  refine Cal.of (by decide +kernel) (Nat.le_of_ble_eq_true rfl) (fun c => ?_)
  have h60 := I.2.2
  refine x_iconst (nI 5) dX5_orderHere_0 (by decide) ?_
  refine x_aload_n dX5_orderHere_1 rfl rfl ?_
  refine tg_toldMany T (.inl q2101) dX5_orderHere_2 ?_
  refine x_val Vr_many ?_
  refine x_imul dX5_orderHere_5 ?_
  refine x_val (pk_mul _ _) ?_
  refine x_istore_n [(1, .int (nI (5 * m))), (0, .ref a)] dX5_orderHere_6 rfl (by decide) rfl ?_
  refine x_aload_n dX5_orderHere_7 rfl rfl ?_
  refine tg_told T (.inl q2100) dX5_orderHere_8 ?_
  refine x_iload_n dX5_orderHere_11 rfl rfl ?_
  refine x_aload_n dX5_orderHere_12 rfl rfl ?_
  refine x_cVI (t_wordHere T I hp SG) okX5_wordHere clX5 q2436 q2438 qs57 dX5_orderHere_13 (Or.inl T.1) rfl rfl (by decide) (Nat.zero_le _) (Nat.zero_le _) (Nat.le_of_ble_eq_true rfl) (fun _ => ?_)
  refine tst8 T rfl (by omega) dX5_orderHere_16 ?_
  refine x_eq (h' := rdH h a g S V ((whS t p).2) m (upd F (5 * m) ((whS t p).1))) (by rw [upS_upS, upS_s]) rfl rfl ?_
  refine x_aload_n dX5_orderHere_17 rfl rfl ?_
  refine tg_told T (.inl q2100) dX5_orderHere_18 ?_
  refine x_iload_n dX5_orderHere_21 rfl rfl ?_
  refine tld8 T rfl (by omega) dX5_orderHere_22 ?_
  refine x_val pk_us ?_
  refine x_if_lt 82 dX5_orderHere_23 (by decide) (fun e1 => ?_) (fun e1 => ?_)
  · skip
    refine x_iconst (nI 0) dX5_orderHere_82 (by decide) ?_
    refine x_zret rfl (by decide +kernel) dX5_orderHere_83 ?_
    have hr : ohS t p m F = (false, (whS t p).2, upd F (5 * m) (whS t p).1) := by unfold ohS; rw [if_pos e1]
    rw [hr]
    exact ⟨rfl, rfl⟩
  · skip
    refine x_aload_n dX5_orderHere_26 rfl rfl ?_
    refine x_iload_n dX5_orderHere_27 rfl rfl ?_
    refine x_iconst (nI 1) dX5_orderHere_28 (by decide) ?_
    refine x_iadd dX5_orderHere_29 ?_
    refine x_val (nI_add _ _) ?_
    refine x_aload_n dX5_orderHere_30 rfl rfl ?_
    refine tg_told T (.inl q2100) dX5_orderHere_31 ?_
    refine x_iload_n dX5_orderHere_34 rfl rfl ?_
    refine tld8 T rfl (by omega) dX5_orderHere_35 ?_
    refine x_val pk_us ?_
    refine x_bipush (nI 103) dX5_orderHere_36 (by decide) ?_
    refine x_icmp_ne 45 dX5_orderHere_38 (by decide) (fun e2 => ?_) (fun e2 => ?_)
    · skip
      refine x_aload_n dX5_orderHere_45 rfl rfl ?_
      refine tg_told T (.inl q2100) dX5_orderHere_46 ?_
      refine x_iload_n dX5_orderHere_49 rfl rfl ?_
      refine tld8 T rfl (by omega) dX5_orderHere_50 ?_
      refine x_val pk_us ?_
      refine x_bipush (nI 109) dX5_orderHere_51 (by decide) ?_
      refine x_icmp_eq 67 dX5_orderHere_53 (by decide) (fun e3 => ?_) (fun e3 => ?_)
      · skip
        refine x_iconst (nI 2) dX5_orderHere_67 (by decide) ?_
        refine x_goto 72 dX5_orderHere_68 (by decide) ?_
        refine x_cVI (t_numbers T I (whS_le hp).2.1 (pl := ((5 * m) + 1)) (mn := 2) (by omega)) okX5_numbers clX5 q2460 q2462 qs61 dX5_orderHere_72 (Or.inl T.1) rfl rfl (by decide) (Nat.zero_le _) (Nat.zero_le _) (Nat.le_of_ble_eq_true rfl) (fun _ => ?_)
        refine x_if_eqB 82 dX5_orderHere_75 (by decide) (fun e4 => ?_) (fun e4 => ?_)
        · skip
          refine x_iconst (nI 0) dX5_orderHere_82 (by decide) ?_
          refine x_zret rfl (by decide +kernel) dX5_orderHere_83 ?_
          have hm : mnyS (whS t p).1 = 2 := by unfold mnyS; rw [if_neg (by assumption), if_pos (by first | exact Or.inl (by assumption) | exact Or.inr (by assumption))]
          have hr : ohS t p m F = nbS t (5 * m + 1) 2 0 (whS t p).2 (upd F (5 * m) (whS t p).1) := by unfold ohS; rw [if_neg (by assumption), hm]
          rw [hr, show (nbS t (5 * m + 1) 2 0 (whS t p).2 (upd F (5 * m) (whS t p).1)).1 = false from e4]
          exact ⟨rfl, rfl⟩
        · skip
          refine x_iconst (nI 1) dX5_orderHere_78 (by decide) ?_
          refine x_goto 83 dX5_orderHere_79 (by decide) ?_
          refine x_zret rfl (by decide +kernel) dX5_orderHere_83 ?_
          have hm : mnyS (whS t p).1 = 2 := by unfold mnyS; rw [if_neg (by assumption), if_pos (by first | exact Or.inl (by assumption) | exact Or.inr (by assumption))]
          have hr : ohS t p m F = nbS t (5 * m + 1) 2 0 (whS t p).2 (upd F (5 * m) (whS t p).1) := by unfold ohS; rw [if_neg (by assumption), hm]
          rw [hr, show (nbS t (5 * m + 1) 2 0 (whS t p).2 (upd F (5 * m) (whS t p).1)).1 = true from e4]
          exact ⟨rfl, rfl⟩
      · skip
        refine x_aload_n dX5_orderHere_56 rfl rfl ?_
        refine tg_told T (.inl q2100) dX5_orderHere_57 ?_
        refine x_iload_n dX5_orderHere_60 rfl rfl ?_
        refine tld8 T rfl (by omega) dX5_orderHere_61 ?_
        refine x_val pk_us ?_
        refine x_bipush (nI 106) dX5_orderHere_62 (by decide) ?_
        refine x_icmp_ne 71 dX5_orderHere_64 (by decide) (fun e5 => ?_) (fun e5 => ?_)
        · skip
          refine x_iconst (nI 1) dX5_orderHere_71 (by decide) ?_
          refine x_cVI (t_numbers T I (whS_le hp).2.1 (pl := ((5 * m) + 1)) (mn := 1) (by omega)) okX5_numbers clX5 q2460 q2462 qs61 dX5_orderHere_72 (Or.inl T.1) rfl rfl (by decide) (Nat.zero_le _) (Nat.zero_le _) (Nat.le_of_ble_eq_true rfl) (fun _ => ?_)
          refine x_if_eqB 82 dX5_orderHere_75 (by decide) (fun e6 => ?_) (fun e6 => ?_)
          · skip
            refine x_iconst (nI 0) dX5_orderHere_82 (by decide) ?_
            refine x_zret rfl (by decide +kernel) dX5_orderHere_83 ?_
            have hm : mnyS (whS t p).1 = 1 := by unfold mnyS; rw [if_neg (by assumption), if_neg (fun z => z.elim (by assumption) (by assumption))]
            have hr : ohS t p m F = nbS t (5 * m + 1) 1 0 (whS t p).2 (upd F (5 * m) (whS t p).1) := by unfold ohS; rw [if_neg (by assumption), hm]
            rw [hr, show (nbS t (5 * m + 1) 1 0 (whS t p).2 (upd F (5 * m) (whS t p).1)).1 = false from e6]
            exact ⟨rfl, rfl⟩
          · skip
            refine x_iconst (nI 1) dX5_orderHere_78 (by decide) ?_
            refine x_goto 83 dX5_orderHere_79 (by decide) ?_
            refine x_zret rfl (by decide +kernel) dX5_orderHere_83 ?_
            have hm : mnyS (whS t p).1 = 1 := by unfold mnyS; rw [if_neg (by assumption), if_neg (fun z => z.elim (by assumption) (by assumption))]
            have hr : ohS t p m F = nbS t (5 * m + 1) 1 0 (whS t p).2 (upd F (5 * m) (whS t p).1) := by unfold ohS; rw [if_neg (by assumption), hm]
            rw [hr, show (nbS t (5 * m + 1) 1 0 (whS t p).2 (upd F (5 * m) (whS t p).1)).1 = true from e6]
            exact ⟨rfl, rfl⟩
        · skip
          refine x_iconst (nI 2) dX5_orderHere_67 (by decide) ?_
          refine x_goto 72 dX5_orderHere_68 (by decide) ?_
          refine x_cVI (t_numbers T I (whS_le hp).2.1 (pl := ((5 * m) + 1)) (mn := 2) (by omega)) okX5_numbers clX5 q2460 q2462 qs61 dX5_orderHere_72 (Or.inl T.1) rfl rfl (by decide) (Nat.zero_le _) (Nat.zero_le _) (Nat.le_of_ble_eq_true rfl) (fun _ => ?_)
          refine x_if_eqB 82 dX5_orderHere_75 (by decide) (fun e7 => ?_) (fun e7 => ?_)
          · skip
            refine x_iconst (nI 0) dX5_orderHere_82 (by decide) ?_
            refine x_zret rfl (by decide +kernel) dX5_orderHere_83 ?_
            have hm : mnyS (whS t p).1 = 2 := by unfold mnyS; rw [if_neg (by assumption), if_pos (by first | exact Or.inl (by assumption) | exact Or.inr (by assumption))]
            have hr : ohS t p m F = nbS t (5 * m + 1) 2 0 (whS t p).2 (upd F (5 * m) (whS t p).1) := by unfold ohS; rw [if_neg (by assumption), hm]
            rw [hr, show (nbS t (5 * m + 1) 2 0 (whS t p).2 (upd F (5 * m) (whS t p).1)).1 = false from e7]
            exact ⟨rfl, rfl⟩
          · skip
            refine x_iconst (nI 1) dX5_orderHere_78 (by decide) ?_
            refine x_goto 83 dX5_orderHere_79 (by decide) ?_
            refine x_zret rfl (by decide +kernel) dX5_orderHere_83 ?_
            have hm : mnyS (whS t p).1 = 2 := by unfold mnyS; rw [if_neg (by assumption), if_pos (by first | exact Or.inl (by assumption) | exact Or.inr (by assumption))]
            have hr : ohS t p m F = nbS t (5 * m + 1) 2 0 (whS t p).2 (upd F (5 * m) (whS t p).1) := by unfold ohS; rw [if_neg (by assumption), hm]
            rw [hr, show (nbS t (5 * m + 1) 2 0 (whS t p).2 (upd F (5 * m) (whS t p).1)).1 = true from e7]
            exact ⟨rfl, rfl⟩
    · skip
      refine x_iconst (nI 4) dX5_orderHere_41 (by decide) ?_
      refine x_goto 72 dX5_orderHere_42 (by decide) ?_
      refine x_cVI (t_numbers T I (whS_le hp).2.1 (pl := ((5 * m) + 1)) (mn := 4) (by omega)) okX5_numbers clX5 q2460 q2462 qs61 dX5_orderHere_72 (Or.inl T.1) rfl rfl (by decide) (Nat.zero_le _) (Nat.zero_le _) (Nat.le_of_ble_eq_true rfl) (fun _ => ?_)
      refine x_if_eqB 82 dX5_orderHere_75 (by decide) (fun e8 => ?_) (fun e8 => ?_)
      · skip
        refine x_iconst (nI 0) dX5_orderHere_82 (by decide) ?_
        refine x_zret rfl (by decide +kernel) dX5_orderHere_83 ?_
        have hm : mnyS (whS t p).1 = 4 := by unfold mnyS; rw [if_pos (by assumption)]
        have hr : ohS t p m F = nbS t (5 * m + 1) 4 0 (whS t p).2 (upd F (5 * m) (whS t p).1) := by unfold ohS; rw [if_neg (by assumption), hm]
        rw [hr, show (nbS t (5 * m + 1) 4 0 (whS t p).2 (upd F (5 * m) (whS t p).1)).1 = false from e8]
        exact ⟨rfl, rfl⟩
      · skip
        refine x_iconst (nI 1) dX5_orderHere_78 (by decide) ?_
        refine x_goto 83 dX5_orderHere_79 (by decide) ?_
        refine x_zret rfl (by decide +kernel) dX5_orderHere_83 ?_
        have hm : mnyS (whS t p).1 = 4 := by unfold mnyS; rw [if_pos (by assumption)]
        have hr : ohS t p m F = nbS t (5 * m + 1) 4 0 (whS t p).2 (upd F (5 * m) (whS t p).1) := by unfold ohS; rw [if_neg (by assumption), hm]
        rw [hr, show (nbS t (5 * m + 1) 4 0 (whS t p).2 (upd F (5 * m) (whS t p).1)).1 = true from e8]
        exact ⟨rfl, rfl⟩
theorem t_isText {G : GG} {h : AH} {a : Nat} {g : Nat → Int32} {S : Nat → Nat → Int32} {V : Nat → Int32} {t : List Int32} {p m : Nat} {F : Nat → Int32} (T : Tw h a) (I : InR S V t) (SG : GSt G) : Cal G kX5_isText 7 0 0 [.ref a] (rdH h a g S V p m F) (rI (bB (itS t 61 0 0 F).1) (rdH h a g S V ((itS t 61 0 0 F).2.1) ((itS t 61 0 0 F).2.2.1) ((itS t 61 0 0 F).2.2.2))) := by
  refine Cal.of (by decide +kernel) (Nat.le_of_ble_eq_true rfl) (fun c => ?_)
  have h60 := I.2.2
  refine x_aload_n dX5_isText_0 rfl rfl ?_
  refine x_iconst (nI 0) dX5_isText_1 (by decide) ?_
  refine tp_at T (.inl q2099) dX5_isText_2 ?_
  refine x_eq (h' := rdH h a g S V 0 m F) (by rw [Vr_41]) rfl rfl ?_
  refine x_aload_n dX5_isText_5 rfl rfl ?_
  refine x_iconst (nI 0) dX5_isText_6 (by decide) ?_
  refine tp_toldMany T (.inl q2101) dX5_isText_7 ?_
  refine x_eq (h' := rdH h a g S V 0 0 F) (by rw [Vr_42]) rfl rfl ?_
  have key : ∀ f q j E, q ≤ t.length → 4 * j ≤ q → t.length < q + f → itS t 61 0 0 F = itS t f q j E → X G c kX5_isText 7 0 0 (rI (bB (itS t 61 0 0 F).1) (rdH h a g S V ((itS t 61 0 0 F).2.1) ((itS t 61 0 0 F).2.2.1) ((itS t 61 0 0 F).2.2.2))) 0 0 (rdH h a g S V q j E) 10 [(0, .ref a)] [] := by
    intro f
    induction f with
    | zero => intro q j E h1 h2 h3 _; omega
    | succ f ih =>
      intro q j E hql hj hf hq
      have ho := ohS_le (m := j) (F := E) hql
      have hst : itS t (f + 1) q j E = (if (ohS t q j E).1 = false then (false, (ohS t q j E).2.1, j, (ohS t q j E).2.2) else if hrL t (ohS t q j E).2.1 = 59 then itS t f ((ohS t q j E).2.1 + 1) (j + 1) (ohS t q j E).2.2 else (decide ((ohS t q j E).2.1 = t.length), (ohS t q j E).2.1, j + 1, (ohS t q j E).2.2)) := rfl
      refine x_aload_n dX5_isText_10 rfl rfl ?_
      refine x_cVI (t_orderHere T I hql (by omega) SG) okX5_orderHere clX5 q2432 q2434 qs56 dX5_isText_11 (Or.inl T.1) rfl rfl (by decide) (Nat.zero_le _) (Nat.zero_le _) (Nat.le_of_ble_eq_true rfl) (fun _ => ?_)
      refine x_if_neB 19 dX5_isText_14 (by decide) (fun e1 => ?_) (fun e1 => ?_)
      · skip
        have k1 : (ohS t q j E).1 = true := e1
        have k4 := ho.2.2 k1
        refine x_aload_n dX5_isText_19 rfl rfl ?_
        refine x_dup dX5_isText_20 rfl ?_
        refine tg_toldMany T (.inl q2101) dX5_isText_21 ?_
        refine x_val Vr_many ?_
        refine x_iconst (nI 1) dX5_isText_24 (by decide) ?_
        refine x_iadd dX5_isText_25 ?_
        refine x_val (nI_add _ _) ?_
        refine tp_toldMany T (.inl q2101) dX5_isText_26 ?_
        refine x_eq (h' := rdH h a g S V ((ohS t q j E).2.1) (j + 1) ((ohS t q j E).2.2)) (by rw [Vr_42]) rfl rfl ?_
        refine x_aload_n dX5_isText_29 rfl rfl ?_
        refine x_bipush (nI 59) dX5_isText_30 (by decide) ?_
        refine x_cVI (t_skips T I ho.2.1) okX5_skips clX5 q2449 q2451 qs60 dX5_isText_32 (Or.inl T.1) rfl rfl (by decide) (Nat.zero_le _) (Nat.zero_le _) (Nat.le_of_ble_eq_true rfl) (fun _ => ?_)
        refine x_if_neB 10 dX5_isText_35 (by decide) (fun e2 => ?_) (fun e2 => ?_)
        · skip
          have s2 := of_decide_eq_true e2
          refine x_eq (h' := rdH h a g S V (((ohS t q j E).2.1) + 1) (j + 1) ((ohS t q j E).2.2)) (by rw [if_pos s2]) rfl rfl ?_
          have k2 := s2
          have k3 := hrL_lt k2 (by decide)
          exact ih ((ohS t q j E).2.1 + 1) (j + 1) _ (by omega) (by omega) (by omega) (by rw [hq, hst, if_neg (by rw [k1]; decide), if_pos (show hrL t (ohS t q j E).2.1 = 59 from k2)])
        · skip
          have s2 := of_decide_eq_false e2
          refine x_eq (h' := rdH h a g S V ((ohS t q j E).2.1) (j + 1) ((ohS t q j E).2.2)) (by rw [if_neg s2]) rfl rfl ?_
          have k2 := s2
          refine x_aload_n dX5_isText_38 rfl rfl ?_
          refine tg_at T (.inl q2099) dX5_isText_39 ?_
          refine x_val Vr_at ?_
          refine x_aload_n dX5_isText_42 rfl rfl ?_
          refine tg_length T (.inl q2094) dX5_isText_43 ?_
          refine x_val ((Vr_ne (by decide) (by decide)).trans I.2.1) ?_
          refine x_icmp_ne 53 dX5_isText_46 (by decide) (fun e3 => ?_) (fun e3 => ?_)
          · skip
            have ne3 := e3
            rw [nI_eq (by omega) (by omega)] at ne3
            refine x_iconst (nI 0) dX5_isText_53 (by decide) ?_
            refine x_zret rfl (by decide +kernel) dX5_isText_54 ?_
            rw [hq, hst, if_neg (by rw [k1]; decide), if_neg (show ¬ hrL t (ohS t q j E).2.1 = 59 from k2)]
            exact ⟨by rw [show decide ((ohS t q j E).2.1 = t.length) = false from decide_eq_false ne3]; rfl, rfl⟩
          · skip
            have ne3 := e3
            rw [nI_eq (by omega) (by omega)] at ne3
            refine x_iconst (nI 1) dX5_isText_49 (by decide) ?_
            refine x_goto 54 dX5_isText_50 (by decide) ?_
            refine x_zret rfl (by decide +kernel) dX5_isText_54 ?_
            rw [hq, hst, if_neg (by rw [k1]; decide), if_neg (show ¬ hrL t (ohS t q j E).2.1 = 59 from k2)]
            exact ⟨by rw [show decide ((ohS t q j E).2.1 = t.length) = true from decide_eq_true ne3]; rfl, rfl⟩
      · skip
        have k1 : (ohS t q j E).1 = false := e1
        refine x_iconst (nI 0) dX5_isText_17 (by decide) ?_
        refine x_zret rfl (by decide +kernel) dX5_isText_18 ?_
        rw [hq, hst, if_pos k1]
        exact ⟨rfl, rfl⟩
  exact key 61 0 0 F (Nat.zero_le _) (by decide) (by omega) rfl
