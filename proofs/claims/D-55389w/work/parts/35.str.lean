/-! STRINGS: what is known of the constants; length, charAt, hashCode, equals; printed by tools/st1.py -/
set_option maxRecDepth 100000
/-- the texts of the String constants, by their places -/
def txl : Nat → List Int32
  | 0 => []
  | 1 => [121, 98, 107, 118, 99]
  | 2 => [32, 62, 32]
  | 3 => [98, 117, 121]
  | 4 => [117, 110, 114, 101, 99, 111, 103, 110, 105, 122, 101, 100, 32, 98, 97, 115, 105, 99, 32, 116, 121, 112, 101, 58, 32]
  | 5 => [103, 114, 105, 110, 100]
  | 6 => [100, 114, 101, 115, 115]
  | 7 => [109, 105, 120]
  | 8 => [106, 97, 114]
  | 9 => [111, 112, 101, 110]
  | 10 => [115, 101, 108, 108]
  | 11 => [115, 101, 114, 118, 101]
  | 12 => [114, 101, 115, 116]
  | 13 => [111, 114, 100, 101, 114]
  | 14 => [116, 114, 97, 121]
  | 15 => [83, 111, 114, 114, 121, 44, 32, 100, 101, 113, 117, 101, 32, 116, 111, 111, 32, 98, 105, 103]
  | 16 => [108, 97, 121]
  | 17 => [115, 111, 108, 100]
  | 18 => [114, 105, 112, 101]
  | 19 => [114, 101, 115, 116, 105, 110, 103]
  | 20 => [106]
  | 21 => [32, 111, 102, 32]
  | 22 => [44, 32]
  | 23 => [100, 44, 32]
  | 24 => [121, 98, 107, 118, 99, 112]
  | 25 => [115, 101]
  | _ => []
/-- their hashes -/
def txh : Nat → Int32
  | 0 => 0
  | 1 => 114772143
  | 2 => 32706
  | 3 => 97926
  | 4 => (-414256221)
  | 5 => 98623252
  | 6 => 95849015
  | 7 => 108124
  | 8 => 104987
  | 9 => 3417674
  | 10 => 3526482
  | 11 => 109327119
  | 12 => 3496916
  | 13 => 106006350
  | 14 => 3568438
  | 15 => (-802385437)
  | 16 => 106916
  | 17 => 3536084
  | 18 => 3500652
  | 19 => 1097513870
  | 20 => 106
  | 21 => 1063177
  | 22 => 1396
  | 23 => 97496
  | 24 => (-737030751)
  | 25 => 3666
  | _ => 0
/-- a String at a, with its bytes -/
def Str (h : AH) (a : Nat) (l : List Int32) : Prop :=
  kO 17 (hKd h a) ∧ hFI h 53 a = 0 ∧ (∃ v, hFR h 537 a = some v ∧ kA 1 (hKd h v) ∧ hLn h v = l.length ∧ ∀ j, j < l.length → hEI h v j = l.getD j 0) ∧ l.length < 2147483648 ∧ ∀ x ∈ l, ∃ k, x = nI k ∧ k < 128
/-- the heap k has what h had, where p says so of the kinds -/
def Kp (p : Nat → Prop) (h k : AH) : Prop := ∀ b, hKd h b ≠ 0 → p (hKd h b) → Eqa k h b
theorem Kp.rf {p : Nat → Prop} {h : AH} : Kp p h h := fun _ _ _ => Eqa.rf
theorem Kp.tr {p : Nat → Prop} {h k m : AH} (x : Kp p h k) (y : Kp p k m) : Kp p h m := fun b hb hp => (y b (by rw [(x b hb hp).1]; exact hb) (by rw [(x b hb hp).1]; exact hp)).tr (x b hb hp)
theorem Kp.mono {p q : Nat → Prop} {h k : AH} (x : Kp p h k) (hq : ∀ n, q n → p n) : Kp q h k := fun b hb hp => x b hb (hq _ hp)
abbrev kAll : Nat → Prop := fun _ => True
theorem Str.kp {h k : AH} {a : Nat} {l : List Int32} {p : Nat → Prop} (hp : ∀ n, (kO 17 n ∨ kA 1 n) → p n) (x : Kp p h k) (s : Str h a l) : Str k a l := by
  obtain ⟨s1, s2, ⟨v, s3, s4, s5, s6⟩, s7, s8⟩ := s
  have e1 := x a (by unfold kO at s1; omega) (hp _ (Or.inl s1))
  have e2 := x v (by unfold kA at s4; omega) (hp _ (Or.inr s4))
  refine ⟨by rw [e1.1]; exact s1, by rw [e1.2.2.1]; exact s2, ⟨v, by rw [e1.2.2.2.1]; exact s3, by rw [e2.1]; exact s4, by rw [e2.2.1]; exact s5, fun j hj => ?_⟩, s7, s8⟩
  rw [e2.2.2.2.2.1]
  exact s6 j hj
/-- an array of ints or bytes that holds l -/
def ArI (h : AH) (t a : Nat) (l : List Int32) : Prop := kA t (hKd h a) ∧ hLn h a = l.length ∧ ∀ j, j < l.length → hEI h a j = l.getD j 0
/-- WHAT THE RUN KNOWS OF ITS START -/
def GSt (G : GG) : Prop :=
  (∀ b, gz G ≤ b → hKd (gB G) b = 0) ∧ (∀ i, i < 26 → Str (gB G) (gS G i) (txl i) ∧ hFI (gB G) 54 (gS G i) = txh i) ∧
  ArI (gB G) 0 (gS G 100) [60, 60, 60, 20, 12] ∧ ArI (gB G) 0 (gS G 101) [10, 10, 10, 5, 1] ∧ ArI (gB G) 0 (gS G 102) [1, 2, 3, 1, 1] ∧
  (hKd (gB G) (gS G 103) = 307 ∧ hLn (gB G) (gS G 103) = 0) ∧
  ArI (gB G) 1 (gS G 104) ((List.range 100).map fun i => nI (48 + i % 10)) ∧ ArI (gB G) 1 (gS G 105) ((List.range 100).map fun i => nI (48 + i / 10))
theorem GSt.kp {G : GG} (g : GSt G) {h : AH} (w : Wf G h) : Kp kAll (gB G) h := fun b hb _ => w.2.1 b (by
  rcases Nat.lt_or_ge b (gz G) with l | l
  · exact l
  · exact absurd (g.1 b l) hb)
theorem GSt.str {G : GG} (g : GSt G) {h : AH} (w : Wf G h) {i : Nat} (hi : i < 26) : Str h (gS G i) (txl i) := (g.2.1 i hi).1.kp (fun _ _ => trivial) (g.kp w)
theorem GSt.hash {G : GG} (g : GSt G) {h : AH} (w : Wf G h) {i : Nat} (hi : i < 26) : hFI h 54 (gS G i) = txh i := by
  have s := (g.2.1 i hi).1.1
  rw [((g.kp w) (gS G i) (by unfold kO at s; omega) trivial).2.2.1]
  exact (g.2.1 i hi).2
theorem ArI.kp {h k : AH} {t a : Nat} {l : List Int32} {p : Nat → Prop} (hp : ∀ n, kA t n → p n) (x : Kp p h k) (s : ArI h t a l) : ArI k t a l := by
  obtain ⟨s1, s2, s3⟩ := s
  have e1 := x a (by unfold kA at s1; omega) (hp _ s1)
  exact ⟨by rw [e1.1]; exact s1, by rw [e1.2.1]; exact s2, fun j hj => by rw [e1.2.2.2.2.1]; exact s3 j hj⟩
theorem i2c_k {k : Nat} (h : k < 128) : ((nI k).toUInt32 % 65536).toInt32 = nI k := by
  have : ∀ k, k < 128 → ((nI k).toUInt32 % 65536).toInt32 = nI k := by decide +kernel
  exact this k h
theorem and255_k {k : Nat} (h : k < 128) : nI k &&& nI 255 = nI k := by
  have : ∀ k, k < 128 → nI k &&& nI 255 = nI k := by decide +kernel
  exact this k h
theorem shr0 {x : Int32} : x >>> ((0 : Int32) &&& 31) = x := by
  have e : (0 : Int32) &&& 31 = 0 := by decide
  rw [e]
  exact Int32.shiftRight_zero
theorem chr_nar {k : Nat} (h : k < 128) : narrow .char (.int (nI k)) = .int (nI k) := by
  have : ∀ k, k < 128 → narrow .char (.int (nI k)) = .int (nI k) := by decide +kernel
  exact this k h
theorem byt_nar {k : Nat} (h : k < 128) : narrow .byte (.int (nI k)) = .int (nI k) ∧ fits .byte (.int (nI k)) = true := by
  have : ∀ k, k < 128 → narrow .byte (.int (nI k)) = .int (nI k) ∧ fits .byte (.int (nI k)) = true := by decide +kernel
  exact this k h
theorem s_coder {G : GG} {h : AH} {a : Nat} {l : List Int32} (S : Str h a l)  : Cal G kJ6_coder 0 0 0 [.ref a] (h) (rI 0 h) := by
  refine Cal.of (by decide +kernel) (Nat.le_of_ble_eq_true rfl) (fun c => ?_)
  obtain ⟨S1, S2, ⟨v, S3, S4, S5, S6⟩, S7, S8⟩ := S
  refine x_gets (ref := "") (List.mem_of_getElem? (i := 4) rfl) q432 dJ6_coder_0 ?_
  refine x_if_eq 13 dJ6_coder_3 (by decide) (fun z => False.elim (by revert z; decide)) (fun _ => ?_)
  refine x_aload_n dJ6_coder_6 rfl rfl ?_
  refine xg17_1 (.inl q646) dJ6_coder_7 S1 ?_
  refine x_val S2 ?_
  refine x_goto 14 dJ6_coder_10 (by decide) ?_
  refine x_zret rfl (by decide +kernel) dJ6_coder_14 ?_
  exact ⟨rfl, rfl⟩
theorem s_isLatin1 {G : GG} {h : AH} {a : Nat} {l : List Int32} (S : Str h a l)  : Cal G kJ6_isLatin1 0 0 0 [.ref a] (h) (rI 1 h) := by
  refine Cal.of (by decide +kernel) (Nat.le_of_ble_eq_true rfl) (fun c => ?_)
  obtain ⟨S1, S2, ⟨v, S3, S4, S5, S6⟩, S7, S8⟩ := S
  refine x_gets (ref := "") (List.mem_of_getElem? (i := 4) rfl) q432 dJ6_isLatin1_0 ?_
  refine x_if_eq 17 dJ6_isLatin1_3 (by decide) (fun z => False.elim (by revert z; decide)) (fun _ => ?_)
  refine x_aload_n dJ6_isLatin1_6 rfl rfl ?_
  refine xg17_1 (.inl q646) dJ6_isLatin1_7 S1 ?_
  refine x_val S2 ?_
  refine x_if_ne 17 dJ6_isLatin1_10 (by decide) (fun z => False.elim (by revert z; decide)) (fun _ => ?_)
  refine x_iconst (nI 1) dJ6_isLatin1_13 (by decide) ?_
  refine x_goto 18 dJ6_isLatin1_14 (by decide) ?_
  refine x_zret rfl (by decide +kernel) dJ6_isLatin1_18 ?_
  exact ⟨rfl, rfl⟩
theorem s_length {G : GG} {h : AH} {a : Nat} {l : List Int32} (S : Str h a l)  : Cal G kJ6_length 1 0 0 [.ref a] (h) (rI (nI l.length) h) := by
  refine Cal.of (by decide +kernel) (Nat.le_of_ble_eq_true rfl) (fun c => ?_)
  have S0 := S
  obtain ⟨S1, S2, ⟨v, S3, S4, S5, S6⟩, S7, S8⟩ := S
  refine x_aload_n dJ6_length_0 rfl rfl ?_
  refine xh17_0 (.inl q645) dJ6_length_1 S1 S3 ?_
  refine x_alen (t := 1) (by decide) dJ6_length_4 S4 ?_
  refine x_val (congrArg nI S5) ?_
  refine x_aload_n dJ6_length_5 rfl rfl ?_
  refine x_cVI (s_coder S0) okJ6_coder clJ6 q590 q591 q592 dJ6_length_6 S1 rfl rfl (by decide) (Nat.zero_le _) (Nat.zero_le _) (Nat.le_of_ble_eq_true rfl) (fun _ => ?_)
  refine x_ishr dJ6_length_9 ?_
  refine x_val shr0 ?_
  refine x_iret rfl dJ6_length_10 ?_
  exact ⟨rfl, rfl⟩
theorem s_pciN {G : GG} {h : AH} {j n : Nat} (hj : j < n) (hn : n < 2147483648) : Cal G kJ19_checkIndex 0 0 0 [.int (nI j), .int (nI n), .null] (h) (rI (nI j) h) := by
  refine Cal.of (by decide +kernel) (Nat.le_of_ble_eq_true rfl) (fun c => ?_)
  refine x_iload_n dJ19_checkIndex_0 rfl rfl ?_
  refine x_if_lt 9 dJ19_checkIndex_1 (by decide) (fun z => absurd z (nI_pos (by omega))) (fun _ => ?_)
  refine x_iload_n dJ19_checkIndex_4 rfl rfl ?_
  refine x_iload_n dJ19_checkIndex_5 rfl rfl ?_
  refine x_icmp_lt 16 dJ19_checkIndex_6 (by decide) (fun _ => ?_) (fun z => absurd ((nI_ltI (by omega) (by omega)).mpr hj) z)
  refine x_iload_n dJ19_checkIndex_16 rfl rfl ?_
  refine x_iret rfl dJ19_checkIndex_17 ?_
  exact ⟨rfl, rfl⟩
theorem s_pciR {G : GG} {h : AH} {j n : Nat} {w : Nat} (hj : j < n) (hn : n < 2147483648) : Cal G kJ19_checkIndex 0 0 0 [.int (nI j), .int (nI n), .ref w] (h) (rI (nI j) h) := by
  refine Cal.of (by decide +kernel) (Nat.le_of_ble_eq_true rfl) (fun c => ?_)
  refine x_iload_n dJ19_checkIndex_0 rfl rfl ?_
  refine x_if_lt 9 dJ19_checkIndex_1 (by decide) (fun z => absurd z (nI_pos (by omega))) (fun _ => ?_)
  refine x_iload_n dJ19_checkIndex_4 rfl rfl ?_
  refine x_iload_n dJ19_checkIndex_5 rfl rfl ?_
  refine x_icmp_lt 16 dJ19_checkIndex_6 (by decide) (fun _ => ?_) (fun z => absurd ((nI_ltI (by omega) (by omega)).mpr hj) z)
  refine x_iload_n dJ19_checkIndex_16 rfl rfl ?_
  refine x_iret rfl dJ19_checkIndex_17 ?_
  exact ⟨rfl, rfl⟩
theorem s_pci {G : GG} {h : AH} {j n : Nat} {w : Option Nat} (hj : j < n) (hn : n < 2147483648) : Cal G kJ19_checkIndex 0 0 0 [.int (nI j), .int (nI n), va_rf w] h (rI (nI j) h) := by
  cases w with
  | none => exact s_pciN hj hn
  | some w => exact s_pciR hj hn
theorem s_sci {G : GG} {h : AH} {j n : Nat} (hj : j < n) (hn : n < 2147483648) : Cal G kJ6_checkIndex 1 0 0 [.int (nI j), .int (nI n)] (h) (rV h) := by
  refine Cal.of (by decide +kernel) (Nat.le_of_ble_eq_true rfl) (fun c => ?_)
  refine x_iload_n dJ6_checkIndex_0 rfl rfl ?_
  refine x_iload_n dJ6_checkIndex_1 rfl rfl ?_
  refine x_gets (ref := "") (List.mem_of_getElem? (i := 7) rfl) q404 dJ6_checkIndex_2 ?_
  refine x_cSI (s_pci hj hn) okJ19_checkIndex q439 q440 dJ6_checkIndex_5 rfl rfl (by decide) (Nat.zero_le _) (Nat.zero_le _) (Nat.le_of_ble_eq_true rfl) (fun _ => ?_)
  refine x_pop dJ6_checkIndex_8 rfl ?_
  refine x_vret rfl dJ6_checkIndex_9 ?_
  exact ⟨rfl, rfl⟩
theorem s_oci {G : GG} {h : AH} {j n : Nat} (hj : j < n) (hn : n < 2147483648) : Cal G kJ22_checkIndex 1 0 0 [.int (nI j), .int (nI n)] (h) (rI (nI j) h) := by
  refine Cal.of (by decide +kernel) (Nat.le_of_ble_eq_true rfl) (fun c => ?_)
  refine x_iload_n dJ22_checkIndex_0 rfl rfl ?_
  refine x_iload_n dJ22_checkIndex_1 rfl rfl ?_
  refine x_null dJ22_checkIndex_2 ?_
  refine x_cSI (s_pciN hj hn) okJ19_checkIndex q1150 q440 dJ22_checkIndex_3 rfl rfl (by decide) (Nat.zero_le _) (Nat.zero_le _) (Nat.le_of_ble_eq_true rfl) (fun _ => ?_)
  refine x_iret rfl dJ22_checkIndex_6 ?_
  exact ⟨rfl, rfl⟩
theorem s_l1c {G : GG} {h : AH} {v j n k : Nat} (S4 : kA 1 (hKd h v)) (S5 : hLn h v = n) (S6 : hEI h v j = nI k) (hk : k < 128) (hj : j < n) (hn : n < 2147483648) : Cal G kJ17_charAt 2 0 0 [.ref v, .int (nI j)] (h) (rI (nI k) h) := by
  refine Cal.of (by decide +kernel) (Nat.le_of_ble_eq_true rfl) (fun c => ?_)
  refine x_iload_n dJ17_charAt_0 rfl rfl ?_
  refine x_aload_n dJ17_charAt_1 rfl rfl ?_
  refine x_alen (t := 1) (by decide) dJ17_charAt_2 S4 ?_
  refine x_val (congrArg nI S5) ?_
  refine x_cSV (s_sci (by omega) (by omega)) okJ6_checkIndex q436 q437 dJ17_charAt_3 rfl rfl (by decide) (Nat.zero_le _) (Nat.zero_le _) (Nat.le_of_ble_eq_true rfl) (fun _ => ?_)
  refine x_aload_n dJ17_charAt_6 rfl rfl ?_
  refine x_iload_n dJ17_charAt_7 rfl rfl ?_
  refine x_bald rfl (by rw [S5]; exact hj) (by omega) dJ17_charAt_8 S4 ?_
  refine x_val S6 ?_
  refine x_sipush (nI 255) dJ17_charAt_9 (by decide) ?_
  refine x_iand dJ17_charAt_12 ?_
  refine x_val (and255_k hk) ?_
  refine x_i2c _ dJ17_charAt_13 rfl ?_
  refine x_val (i2c_k hk) ?_
  refine x_zret rfl (chr_nar hk) dJ17_charAt_14 ?_
  exact ⟨rfl, rfl⟩
theorem s_charAt {G : GG} {h : AH} {a : Nat} {l : List Int32} (S : Str h a l) {j : Nat} (hj : j < l.length) : Cal G kJ6_charAt 3 0 0 [.ref a, .int (nI j)] (h) (rI (l.getD j 0) h) := by
  refine Cal.of (by decide +kernel) (Nat.le_of_ble_eq_true rfl) (fun c => ?_)
  have S0 := S
  obtain ⟨S1, S2, ⟨v, S3, S4, S5, S6⟩, S7, S8⟩ := S
  obtain ⟨k, hk0, hk⟩ := S8 (l.getD j 0) (by rw [List.getD_eq_getElem?_getD, List.getElem?_eq_getElem hj]; exact List.getElem_mem hj)
  have hjl := (S6 j hj).trans hk0
  refine x_aload_n dJ6_charAt_0 rfl rfl ?_
  refine x_cVI (s_isLatin1 S0) okJ6_isLatin1 clJ6 q428 q429 q430 dJ6_charAt_1 S1 rfl rfl (by decide) (Nat.zero_le _) (Nat.zero_le _) (Nat.le_of_ble_eq_true rfl) (fun _ => ?_)
  refine x_if_eq 16 dJ6_charAt_4 (by decide) (fun z => False.elim (by revert z; decide)) (fun _ => ?_)
  refine x_aload_n dJ6_charAt_7 rfl rfl ?_
  refine xh17_0 (.inl q645) dJ6_charAt_8 S1 S3 ?_
  refine x_iload_n dJ6_charAt_11 rfl rfl ?_
  refine x_cSI (s_l1c S4 S5 hjl hk hj S7) okJ17_charAt q433 q434 dJ6_charAt_12 rfl rfl (by decide) (Nat.zero_le _) (Nat.zero_le _) (Nat.le_of_ble_eq_true rfl) (fun _ => ?_)
  refine x_zret rfl (chr_nar hk) dJ6_charAt_15 ?_
  exact ⟨by rw [hk0], rfl⟩
theorem s_hashCode {G : GG} {h : AH} {a : Nat} {l : List Int32} (S : Str h a l) {x : Int32} (hx : hFI h 54 a = x) (hn : ¬ x = 0) : Cal G kJ6_hashCode 0 0 0 [.ref a] (h) (rI x h) := by
  refine Cal.of (by decide +kernel) (Nat.le_of_ble_eq_true rfl) (fun c => ?_)
  have S0 := S
  obtain ⟨S1, S2, ⟨v, S3, S4, S5, S6⟩, S7, S8⟩ := S
  refine x_aload_n dJ6_hashCode_0 rfl rfl ?_
  refine xg17_2 (.inl q647) dJ6_hashCode_1 S1 ?_
  refine x_val hx ?_
  refine x_istore_n [(1, .int x), (0, .ref a)] dJ6_hashCode_4 rfl (by decide) rfl ?_
  refine x_iload_n dJ6_hashCode_5 rfl rfl ?_
  refine x_if_ne 58 dJ6_hashCode_6 (by decide) (fun _ => ?_) (fun z => absurd z hn)
  refine x_iload_n dJ6_hashCode_58 rfl rfl ?_
  refine x_iret rfl dJ6_hashCode_59 ?_
  exact ⟨rfl, rfl⟩
theorem s_equals {G : GG} {h : AH} {a : Nat} : Cal G kJ6_equals 0 0 0 [.ref a, .ref a] h (rI 1 h) := by
  refine Cal.of (by decide +kernel) (Nat.le_of_ble_eq_true rfl) (fun c => ?_)
  refine x_aload_n dJ6_equals_0 rfl rfl ?_
  refine x_aload_n dJ6_equals_1 rfl rfl ?_
  refine x_acmp_ne (rx := some a) (ry := some a) 7 dJ6_equals_2 (by decide) (fun z => absurd rfl z) (fun _ => ?_)
  refine x_iconst 1 dJ6_equals_5 (by decide) ?_
  refine x_zret rfl (by decide +kernel) dJ6_equals_6 ⟨rfl, rfl⟩
