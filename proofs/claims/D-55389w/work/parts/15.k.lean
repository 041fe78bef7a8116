/-! THE CLASSES of the list, a getfield and putfield row a field, and the methods; printed by tools/mkk.py -/
set_option maxRecDepth 100000
theorem clX1 : CLk 0 RX1 TX1 8 := ⟨by decide, rfl, in_X1, ⟨tyX1, tyX1_ok, by
  intro k hk
  rcases (show k = 0 ∨ k = 1 ∨ k = 2 ∨ k = 3 ∨ k = 4 ∨ k = 5 ∨ k = 6 ∨ k = 7 by omega) with r | r | r | r | r | r | r | r <;> subst r <;> rfl⟩, nmX1⟩
theorem clX2 : CLk 1 RX2 TX2 9 := ⟨by decide, rfl, in_X2, ⟨tyX2, tyX2_ok, by
  intro k hk
  rcases (show k = 0 ∨ k = 1 ∨ k = 2 ∨ k = 3 ∨ k = 4 ∨ k = 5 ∨ k = 6 ∨ k = 7 ∨ k = 8 by omega) with r | r | r | r | r | r | r | r | r <;> subst r <;> rfl⟩, nmX2⟩
theorem clX3 : CLk 2 RX3 TX3 4 := ⟨by decide, rfl, in_X3, ⟨tyX3, tyX3_ok, by
  intro k hk
  rcases (show k = 0 ∨ k = 1 ∨ k = 2 ∨ k = 3 by omega) with r | r | r | r <;> subst r <;> rfl⟩, nmX3⟩
theorem clX4 : CLk 3 RX4 TX4 2 := ⟨by decide, rfl, in_X4, ⟨tyX4, tyX4_ok, by
  intro k hk
  rcases (show k = 0 ∨ k = 1 by omega) with r | r <;> subst r <;> rfl⟩, nmX4⟩
theorem clX9 : CLk 4 RX9 TX9 8 := ⟨by decide, rfl, in_X9, ⟨tyX9, tyX9_ok, by
  intro k hk
  rcases (show k = 0 ∨ k = 1 ∨ k = 2 ∨ k = 3 ∨ k = 4 ∨ k = 5 ∨ k = 6 ∨ k = 7 by omega) with r | r | r | r | r | r | r | r <;> subst r <;> rfl⟩, nmX9⟩
theorem clX11 : CLk 5 RX11 TX11 7 := ⟨by decide, rfl, in_X11, ⟨tyX11, tyX11_ok, by
  intro k hk
  rcases (show k = 0 ∨ k = 1 ∨ k = 2 ∨ k = 3 ∨ k = 4 ∨ k = 5 ∨ k = 6 by omega) with r | r | r | r | r | r | r <;> subst r <;> rfl⟩, nmX11⟩
theorem clX12 : CLk 6 RX12 TX12 1 := ⟨by decide, rfl, in_X12, ⟨tyX12, tyX12_ok, by
  intro k hk
  rcases (show k = 0 by omega) with r <;> subst r <;> rfl⟩, nmX12⟩
theorem clX14 : CLk 7 RX14 TX14 5 := ⟨by decide, rfl, in_X14, ⟨tyX14, tyX14_ok, by
  intro k hk
  rcases (show k = 0 ∨ k = 1 ∨ k = 2 ∨ k = 3 ∨ k = 4 by omega) with r | r | r | r | r <;> subst r <;> rfl⟩, nmX14⟩
theorem clX6 : CLk 8 RX6 TX6 2 := ⟨by decide, rfl, in_X6, ⟨tyX6, tyX6_ok, by
  intro k hk
  rcases (show k = 0 ∨ k = 1 by omega) with r | r <;> subst r <;> rfl⟩, nmX6⟩
theorem clX16 : CLk 9 RX16 TX16 3 := ⟨by decide, rfl, in_X16, ⟨tyX16, tyX16_ok, by
  intro k hk
  rcases (show k = 0 ∨ k = 1 ∨ k = 2 by omega) with r | r | r <;> subst r <;> rfl⟩, nmX16⟩
theorem clX7 : CLk 10 RX7 TX7 8 := ⟨by decide, rfl, in_X7, ⟨tyX7, tyX7_ok, by
  intro k hk
  rcases (show k = 0 ∨ k = 1 ∨ k = 2 ∨ k = 3 ∨ k = 4 ∨ k = 5 ∨ k = 6 ∨ k = 7 by omega) with r | r | r | r | r | r | r | r <;> subst r <;> rfl⟩, nmX7⟩
theorem clX17 : CLk 11 RX17 TX17 7 := ⟨by decide, rfl, in_X17, ⟨tyX17, tyX17_ok, by
  intro k hk
  rcases (show k = 0 ∨ k = 1 ∨ k = 2 ∨ k = 3 ∨ k = 4 ∨ k = 5 ∨ k = 6 by omega) with r | r | r | r | r | r | r <;> subst r <;> rfl⟩, nmX17⟩
theorem clX5 : CLk 12 RX5 TX5 20 := ⟨by decide, rfl, in_X5, ⟨tyX5, tyX5_ok, by
  intro k hk
  rcases (show k = 0 ∨ k = 1 ∨ k = 2 ∨ k = 3 ∨ k = 4 ∨ k = 5 ∨ k = 6 ∨ k = 7 ∨ k = 8 ∨ k = 9 ∨ k = 10 ∨ k = 11 ∨ k = 12 ∨ k = 13 ∨ k = 14 ∨ k = 15 ∨ k = 16 ∨ k = 17 ∨ k = 18 ∨ k = 19 by omega) with r | r | r | r | r | r | r | r | r | r | r | r | r | r | r | r | r | r | r | r <;> subst r <;> rfl⟩, nmX5⟩
theorem clJ2 : CLk 13 RJ2 TJ2 3 := ⟨by decide, rfl, in_J2, ⟨tyJ2, tyJ2_ok, by
  intro k hk
  rcases (show k = 0 ∨ k = 1 ∨ k = 2 by omega) with r | r | r <;> subst r <;> rfl⟩, nmJ2⟩
theorem clJ12 : CLk 14 RJ12 TJ12 4 := ⟨by decide, rfl, in_J12, ⟨tyJ12, tyJ12_ok, by
  intro k hk
  rcases (show k = 0 ∨ k = 1 ∨ k = 2 ∨ k = 3 by omega) with r | r | r | r <;> subst r <;> rfl⟩, nmJ12⟩
theorem clJ3 : CLk 15 RJ3 TJ3 3 := ⟨by decide, rfl, in_J3, ⟨tyJ3, tyJ3_ok, by
  intro k hk
  rcases (show k = 0 ∨ k = 1 ∨ k = 2 by omega) with r | r | r <;> subst r <;> rfl⟩, nmJ3⟩
theorem clJ5 : CLk 16 RJ5 TJ5 4 := ⟨by decide, rfl, in_J5, ⟨tyJ5, tyJ5_ok, by
  intro k hk
  rcases (show k = 0 ∨ k = 1 ∨ k = 2 ∨ k = 3 by omega) with r | r | r | r <;> subst r <;> rfl⟩, nmJ5⟩
theorem clJ6 : CLk 17 RJ6 TJ6 4 := ⟨by decide, rfl, in_J6, ⟨tyJ6, tyJ6_ok, by
  intro k hk
  rcases (show k = 0 ∨ k = 1 ∨ k = 2 ∨ k = 3 by omega) with r | r | r | r <;> subst r <;> rfl⟩, nmJ6⟩
section XF
variable {G : GG} {c : CX} {K : KX} {d mc ms : Nat} {Q : OC → AH → Prop} {bc bs : Nat} {h : AH} {pc : Nat} {lv : List (Nat × Value)} {st : List Value}
theorem xg0_0 {o : Option Nat} {a idx : Nat} (hl : LkF K idx "MustardMill" "mill" "LMustardMill$Mill;") (hd : decode (kc K) pc = .ok (.getfield idx, 3)) (hk : kO 0 (hKd h a)) (ho : hFR h 501 a = o) (kk : X G c K d mc ms Q bc bs h (pc + 3) lv (va_rf o :: st)) : X G c K d mc ms Q bc bs h pc lv (.ref a :: st) := x_getf clX1 0 (by decide) hl rfl (congrArg va_rf ho) hd hk kk
theorem xh0_0 {b : Nat} {a idx : Nat} (hl : LkF K idx "MustardMill" "mill" "LMustardMill$Mill;") (hd : decode (kc K) pc = .ok (.getfield idx, 3)) (hk : kO 0 (hKd h a)) (ho : hFR h 501 a = some b) (kk : X G c K d mc ms Q bc bs h (pc + 3) lv (.ref b :: st)) : X G c K d mc ms Q bc bs h pc lv (.ref a :: st) := xg0_0 hl hd hk ho kk
theorem fj0_0 : ∀ j, j < 8 → (fid 0 j = 501 ↔ j = 0) := (fun j hj => by rcases (show j = 0 ∨ j = 1 ∨ j = 2 ∨ j = 3 ∨ j = 4 ∨ j = 5 ∨ j = 6 ∨ j = 7 by omega) with r | r | r | r | r | r | r | r <;> subst r <;> decide)
theorem xp0_0 {b : Nat} {a idx : Nat} (hl : LkF K idx "MustardMill" "mill" "LMustardMill$Mill;") (hd : decode (kc K) pc = .ok (.putfield idx, 3)) (hk : hKd h a = 1) (kk : X G c K d mc ms Q bc bs (uFR h 501 a (some b)) (pc + 3) lv st) : X G c K d mc ms Q bc bs h pc lv (.ref b :: .ref a :: st) := x_putf (h' := uFR h 501 a (some b)) clX1 0 (by decide) hl rfl rfl rfl rfl rfl rfl rfl (fun q hq => Eqa.uFR hq) (e4R (by decide) (fj0_0)) hd hk kk
theorem xpn0_0 {a idx : Nat} (hl : LkF K idx "MustardMill" "mill" "LMustardMill$Mill;") (hd : decode (kc K) pc = .ok (.putfield idx, 3)) (hk : hKd h a = 1) (kk : X G c K d mc ms Q bc bs (uFR h 501 a none) (pc + 3) lv st) : X G c K d mc ms Q bc bs h pc lv (.null :: .ref a :: st) := x_putf (h' := uFR h 501 a none) clX1 0 (by decide) hl rfl rfl rfl rfl rfl rfl rfl (fun q hq => Eqa.uFR hq) (e4R (by decide) (fj0_0)) hd hk kk
theorem xg0_1 {o : Option Nat} {a idx : Nat} (hl : LkF K idx "MustardMill" "undoSteps" "Ljava/util/ArrayDeque;") (hd : decode (kc K) pc = .ok (.getfield idx, 3)) (hk : kO 0 (hKd h a)) (ho : hFR h 502 a = o) (kk : X G c K d mc ms Q bc bs h (pc + 3) lv (va_rf o :: st)) : X G c K d mc ms Q bc bs h pc lv (.ref a :: st) := x_getf clX1 1 (by decide) hl rfl (congrArg va_rf ho) hd hk kk
theorem xh0_1 {b : Nat} {a idx : Nat} (hl : LkF K idx "MustardMill" "undoSteps" "Ljava/util/ArrayDeque;") (hd : decode (kc K) pc = .ok (.getfield idx, 3)) (hk : kO 0 (hKd h a)) (ho : hFR h 502 a = some b) (kk : X G c K d mc ms Q bc bs h (pc + 3) lv (.ref b :: st)) : X G c K d mc ms Q bc bs h pc lv (.ref a :: st) := xg0_1 hl hd hk ho kk
theorem fj0_1 : ∀ j, j < 8 → (fid 0 j = 502 ↔ j = 1) := (fun j hj => by rcases (show j = 0 ∨ j = 1 ∨ j = 2 ∨ j = 3 ∨ j = 4 ∨ j = 5 ∨ j = 6 ∨ j = 7 by omega) with r | r | r | r | r | r | r | r <;> subst r <;> decide)
theorem xp0_1 {b : Nat} {a idx : Nat} (hl : Cond.fieldLink (ky K).cls idx "MustardMill" "undoSteps" "Ljava/util/ArrayDeque;" ∈ lw_all) (hy : (ky K).cls = "MustardMill" ∧ (ky K).name = "<init>") (hd : decode (kc K) pc = .ok (.putfield idx, 3)) (hk : hKd h a = 1) (kk : X G c K d mc ms Q bc bs (uFR h 502 a (some b)) (pc + 3) lv st) : X G c K d mc ms Q bc bs h pc lv (.ref b :: .ref a :: st) := x_putF (h' := uFR h 502 a (some b)) clX1 1 (by decide) hl rfl hy.2 hy.1.symm rfl rfl rfl rfl rfl (fun q hq => Eqa.uFR hq) (e4R (by decide) (fj0_1)) hd hk kk
theorem xpn0_1 {a idx : Nat} (hl : Cond.fieldLink (ky K).cls idx "MustardMill" "undoSteps" "Ljava/util/ArrayDeque;" ∈ lw_all) (hy : (ky K).cls = "MustardMill" ∧ (ky K).name = "<init>") (hd : decode (kc K) pc = .ok (.putfield idx, 3)) (hk : hKd h a = 1) (kk : X G c K d mc ms Q bc bs (uFR h 502 a none) (pc + 3) lv st) : X G c K d mc ms Q bc bs h pc lv (.null :: .ref a :: st) := x_putF (h' := uFR h 502 a none) clX1 1 (by decide) hl rfl hy.2 hy.1.symm rfl rfl rfl rfl rfl (fun q hq => Eqa.uFR hq) (e4R (by decide) (fj0_1)) hd hk kk
theorem xg0_2 {o : Option Nat} {a idx : Nat} (hl : LkF K idx "MustardMill" "saved" "LMustardMill$Mill;") (hd : decode (kc K) pc = .ok (.getfield idx, 3)) (hk : kO 0 (hKd h a)) (ho : hFR h 503 a = o) (kk : X G c K d mc ms Q bc bs h (pc + 3) lv (va_rf o :: st)) : X G c K d mc ms Q bc bs h pc lv (.ref a :: st) := x_getf clX1 2 (by decide) hl rfl (congrArg va_rf ho) hd hk kk
theorem xh0_2 {b : Nat} {a idx : Nat} (hl : LkF K idx "MustardMill" "saved" "LMustardMill$Mill;") (hd : decode (kc K) pc = .ok (.getfield idx, 3)) (hk : kO 0 (hKd h a)) (ho : hFR h 503 a = some b) (kk : X G c K d mc ms Q bc bs h (pc + 3) lv (.ref b :: st)) : X G c K d mc ms Q bc bs h pc lv (.ref a :: st) := xg0_2 hl hd hk ho kk
theorem fj0_2 : ∀ j, j < 8 → (fid 0 j = 503 ↔ j = 2) := (fun j hj => by rcases (show j = 0 ∨ j = 1 ∨ j = 2 ∨ j = 3 ∨ j = 4 ∨ j = 5 ∨ j = 6 ∨ j = 7 by omega) with r | r | r | r | r | r | r | r <;> subst r <;> decide)
theorem xp0_2 {b : Nat} {a idx : Nat} (hl : LkF K idx "MustardMill" "saved" "LMustardMill$Mill;") (hd : decode (kc K) pc = .ok (.putfield idx, 3)) (hk : hKd h a = 1) (kk : X G c K d mc ms Q bc bs (uFR h 503 a (some b)) (pc + 3) lv st) : X G c K d mc ms Q bc bs h pc lv (.ref b :: .ref a :: st) := x_putf (h' := uFR h 503 a (some b)) clX1 2 (by decide) hl rfl rfl rfl rfl rfl rfl rfl (fun q hq => Eqa.uFR hq) (e4R (by decide) (fj0_2)) hd hk kk
theorem xpn0_2 {a idx : Nat} (hl : LkF K idx "MustardMill" "saved" "LMustardMill$Mill;") (hd : decode (kc K) pc = .ok (.putfield idx, 3)) (hk : hKd h a = 1) (kk : X G c K d mc ms Q bc bs (uFR h 503 a none) (pc + 3) lv st) : X G c K d mc ms Q bc bs h pc lv (.null :: .ref a :: st) := x_putf (h' := uFR h 503 a none) clX1 2 (by decide) hl rfl rfl rfl rfl rfl rfl rfl (fun q hq => Eqa.uFR hq) (e4R (by decide) (fj0_2)) hd hk kk
theorem xg0_3 {o : Option Nat} {a idx : Nat} (hl : LkF K idx "MustardMill" "input" "Ljava/lang/StringBuilder;") (hd : decode (kc K) pc = .ok (.getfield idx, 3)) (hk : kO 0 (hKd h a)) (ho : hFR h 504 a = o) (kk : X G c K d mc ms Q bc bs h (pc + 3) lv (va_rf o :: st)) : X G c K d mc ms Q bc bs h pc lv (.ref a :: st) := x_getf clX1 3 (by decide) hl rfl (congrArg va_rf ho) hd hk kk
theorem xh0_3 {b : Nat} {a idx : Nat} (hl : LkF K idx "MustardMill" "input" "Ljava/lang/StringBuilder;") (hd : decode (kc K) pc = .ok (.getfield idx, 3)) (hk : kO 0 (hKd h a)) (ho : hFR h 504 a = some b) (kk : X G c K d mc ms Q bc bs h (pc + 3) lv (.ref b :: st)) : X G c K d mc ms Q bc bs h pc lv (.ref a :: st) := xg0_3 hl hd hk ho kk
theorem fj0_3 : ∀ j, j < 8 → (fid 0 j = 504 ↔ j = 3) := (fun j hj => by rcases (show j = 0 ∨ j = 1 ∨ j = 2 ∨ j = 3 ∨ j = 4 ∨ j = 5 ∨ j = 6 ∨ j = 7 by omega) with r | r | r | r | r | r | r | r <;> subst r <;> decide)
theorem xp0_3 {b : Nat} {a idx : Nat} (hl : LkF K idx "MustardMill" "input" "Ljava/lang/StringBuilder;") (hd : decode (kc K) pc = .ok (.putfield idx, 3)) (hk : hKd h a = 1) (kk : X G c K d mc ms Q bc bs (uFR h 504 a (some b)) (pc + 3) lv st) : X G c K d mc ms Q bc bs h pc lv (.ref b :: .ref a :: st) := x_putf (h' := uFR h 504 a (some b)) clX1 3 (by decide) hl rfl rfl rfl rfl rfl rfl rfl (fun q hq => Eqa.uFR hq) (e4R (by decide) (fj0_3)) hd hk kk
theorem xpn0_3 {a idx : Nat} (hl : LkF K idx "MustardMill" "input" "Ljava/lang/StringBuilder;") (hd : decode (kc K) pc = .ok (.putfield idx, 3)) (hk : hKd h a = 1) (kk : X G c K d mc ms Q bc bs (uFR h 504 a none) (pc + 3) lv st) : X G c K d mc ms Q bc bs h pc lv (.null :: .ref a :: st) := x_putf (h' := uFR h 504 a none) clX1 3 (by decide) hl rfl rfl rfl rfl rfl rfl rfl (fun q hq => Eqa.uFR hq) (e4R (by decide) (fj0_3)) hd hk kk
theorem xg0_4 {o : Option Nat} {a idx : Nat} (hl : LkF K idx "MustardMill" "line" "Ljava/lang/String;") (hd : decode (kc K) pc = .ok (.getfield idx, 3)) (hk : kO 0 (hKd h a)) (ho : hFR h 505 a = o) (kk : X G c K d mc ms Q bc bs h (pc + 3) lv (va_rf o :: st)) : X G c K d mc ms Q bc bs h pc lv (.ref a :: st) := x_getf clX1 4 (by decide) hl rfl (congrArg va_rf ho) hd hk kk
theorem xh0_4 {b : Nat} {a idx : Nat} (hl : LkF K idx "MustardMill" "line" "Ljava/lang/String;") (hd : decode (kc K) pc = .ok (.getfield idx, 3)) (hk : kO 0 (hKd h a)) (ho : hFR h 505 a = some b) (kk : X G c K d mc ms Q bc bs h (pc + 3) lv (.ref b :: st)) : X G c K d mc ms Q bc bs h pc lv (.ref a :: st) := xg0_4 hl hd hk ho kk
theorem fj0_4 : ∀ j, j < 8 → (fid 0 j = 505 ↔ j = 4) := (fun j hj => by rcases (show j = 0 ∨ j = 1 ∨ j = 2 ∨ j = 3 ∨ j = 4 ∨ j = 5 ∨ j = 6 ∨ j = 7 by omega) with r | r | r | r | r | r | r | r <;> subst r <;> decide)
theorem xp0_4 {b : Nat} {a idx : Nat} (hl : LkF K idx "MustardMill" "line" "Ljava/lang/String;") (hd : decode (kc K) pc = .ok (.putfield idx, 3)) (hk : hKd h a = 1) (kk : X G c K d mc ms Q bc bs (uFR h 505 a (some b)) (pc + 3) lv st) : X G c K d mc ms Q bc bs h pc lv (.ref b :: .ref a :: st) := x_putf (h' := uFR h 505 a (some b)) clX1 4 (by decide) hl rfl rfl rfl rfl rfl rfl rfl (fun q hq => Eqa.uFR hq) (e4R (by decide) (fj0_4)) hd hk kk
theorem xpn0_4 {a idx : Nat} (hl : LkF K idx "MustardMill" "line" "Ljava/lang/String;") (hd : decode (kc K) pc = .ok (.putfield idx, 3)) (hk : hKd h a = 1) (kk : X G c K d mc ms Q bc bs (uFR h 505 a none) (pc + 3) lv st) : X G c K d mc ms Q bc bs h pc lv (.null :: .ref a :: st) := x_putf (h' := uFR h 505 a none) clX1 4 (by decide) hl rfl rfl rfl rfl rfl rfl rfl (fun q hq => Eqa.uFR hq) (e4R (by decide) (fj0_4)) hd hk kk
theorem xg0_5 {o : Option Nat} {a idx : Nat} (hl : LkF K idx "MustardMill" "lastError" "LMustardMill$SyntaxException;") (hd : decode (kc K) pc = .ok (.getfield idx, 3)) (hk : kO 0 (hKd h a)) (ho : hFR h 506 a = o) (kk : X G c K d mc ms Q bc bs h (pc + 3) lv (va_rf o :: st)) : X G c K d mc ms Q bc bs h pc lv (.ref a :: st) := x_getf clX1 5 (by decide) hl rfl (congrArg va_rf ho) hd hk kk
theorem xh0_5 {b : Nat} {a idx : Nat} (hl : LkF K idx "MustardMill" "lastError" "LMustardMill$SyntaxException;") (hd : decode (kc K) pc = .ok (.getfield idx, 3)) (hk : kO 0 (hKd h a)) (ho : hFR h 506 a = some b) (kk : X G c K d mc ms Q bc bs h (pc + 3) lv (.ref b :: st)) : X G c K d mc ms Q bc bs h pc lv (.ref a :: st) := xg0_5 hl hd hk ho kk
theorem fj0_5 : ∀ j, j < 8 → (fid 0 j = 506 ↔ j = 5) := (fun j hj => by rcases (show j = 0 ∨ j = 1 ∨ j = 2 ∨ j = 3 ∨ j = 4 ∨ j = 5 ∨ j = 6 ∨ j = 7 by omega) with r | r | r | r | r | r | r | r <;> subst r <;> decide)
theorem xp0_5 {b : Nat} {a idx : Nat} (hl : LkF K idx "MustardMill" "lastError" "LMustardMill$SyntaxException;") (hd : decode (kc K) pc = .ok (.putfield idx, 3)) (hk : hKd h a = 1) (kk : X G c K d mc ms Q bc bs (uFR h 506 a (some b)) (pc + 3) lv st) : X G c K d mc ms Q bc bs h pc lv (.ref b :: .ref a :: st) := x_putf (h' := uFR h 506 a (some b)) clX1 5 (by decide) hl rfl rfl rfl rfl rfl rfl rfl (fun q hq => Eqa.uFR hq) (e4R (by decide) (fj0_5)) hd hk kk
theorem xpn0_5 {a idx : Nat} (hl : LkF K idx "MustardMill" "lastError" "LMustardMill$SyntaxException;") (hd : decode (kc K) pc = .ok (.putfield idx, 3)) (hk : hKd h a = 1) (kk : X G c K d mc ms Q bc bs (uFR h 506 a none) (pc + 3) lv st) : X G c K d mc ms Q bc bs h pc lv (.null :: .ref a :: st) := x_putf (h' := uFR h 506 a none) clX1 5 (by decide) hl rfl rfl rfl rfl rfl rfl rfl (fun q hq => Eqa.uFR hq) (e4R (by decide) (fj0_5)) hd hk kk
theorem xg0_6 {a idx : Nat} (hl : LkF K idx "MustardMill" "lastItem" "I") (hd : decode (kc K) pc = .ok (.getfield idx, 3)) (hk : kO 0 (hKd h a)) (kk : X G c K d mc ms Q bc bs h (pc + 3) lv (.int (hFI h 1 a) :: st)) : X G c K d mc ms Q bc bs h pc lv (.ref a :: st) := x_getf clX1 6 (by decide) hl rfl rfl hd hk kk
theorem fj0_6 : ∀ j, j < 8 → (fid 0 j = 1 ↔ j = 6) := (fun j hj => by rcases (show j = 0 ∨ j = 1 ∨ j = 2 ∨ j = 3 ∨ j = 4 ∨ j = 5 ∨ j = 6 ∨ j = 7 by omega) with r | r | r | r | r | r | r | r <;> subst r <;> decide)
theorem xp0_6 {v : Int32} {a idx : Nat} (hl : LkF K idx "MustardMill" "lastItem" "I") (hd : decode (kc K) pc = .ok (.putfield idx, 3)) (hk : hKd h a = 1) (kk : X G c K d mc ms Q bc bs (uFI h 1 a v) (pc + 3) lv st) : X G c K d mc ms Q bc bs h pc lv (.int v :: .ref a :: st) := x_putf (h' := uFI h 1 a v) clX1 6 (by decide) hl rfl rfl rfl rfl rfl rfl rfl (fun q hq => Eqa.uFI hq) (e4I (by decide) (fj0_6)) hd hk kk
theorem xg0_7 {o : Option Nat} {a idx : Nat} (hl : LkF K idx "MustardMill" "lastRefusal" "LMustardMill$Refused;") (hd : decode (kc K) pc = .ok (.getfield idx, 3)) (hk : kO 0 (hKd h a)) (ho : hFR h 507 a = o) (kk : X G c K d mc ms Q bc bs h (pc + 3) lv (va_rf o :: st)) : X G c K d mc ms Q bc bs h pc lv (.ref a :: st) := x_getf clX1 7 (by decide) hl rfl (congrArg va_rf ho) hd hk kk
theorem xh0_7 {b : Nat} {a idx : Nat} (hl : LkF K idx "MustardMill" "lastRefusal" "LMustardMill$Refused;") (hd : decode (kc K) pc = .ok (.getfield idx, 3)) (hk : kO 0 (hKd h a)) (ho : hFR h 507 a = some b) (kk : X G c K d mc ms Q bc bs h (pc + 3) lv (.ref b :: st)) : X G c K d mc ms Q bc bs h pc lv (.ref a :: st) := xg0_7 hl hd hk ho kk
theorem fj0_7 : ∀ j, j < 8 → (fid 0 j = 507 ↔ j = 7) := (fun j hj => by rcases (show j = 0 ∨ j = 1 ∨ j = 2 ∨ j = 3 ∨ j = 4 ∨ j = 5 ∨ j = 6 ∨ j = 7 by omega) with r | r | r | r | r | r | r | r <;> subst r <;> decide)
theorem xp0_7 {b : Nat} {a idx : Nat} (hl : LkF K idx "MustardMill" "lastRefusal" "LMustardMill$Refused;") (hd : decode (kc K) pc = .ok (.putfield idx, 3)) (hk : hKd h a = 1) (kk : X G c K d mc ms Q bc bs (uFR h 507 a (some b)) (pc + 3) lv st) : X G c K d mc ms Q bc bs h pc lv (.ref b :: .ref a :: st) := x_putf (h' := uFR h 507 a (some b)) clX1 7 (by decide) hl rfl rfl rfl rfl rfl rfl rfl (fun q hq => Eqa.uFR hq) (e4R (by decide) (fj0_7)) hd hk kk
theorem xpn0_7 {a idx : Nat} (hl : LkF K idx "MustardMill" "lastRefusal" "LMustardMill$Refused;") (hd : decode (kc K) pc = .ok (.putfield idx, 3)) (hk : hKd h a = 1) (kk : X G c K d mc ms Q bc bs (uFR h 507 a none) (pc + 3) lv st) : X G c K d mc ms Q bc bs h pc lv (.null :: .ref a :: st) := x_putf (h' := uFR h 507 a none) clX1 7 (by decide) hl rfl rfl rfl rfl rfl rfl rfl (fun q hq => Eqa.uFR hq) (e4R (by decide) (fj0_7)) hd hk kk
theorem xg1_0 {o : Option Nat} {a idx : Nat} (hl : LkF K idx "MustardMill$Mill" "stocks" "[I") (hd : decode (kc K) pc = .ok (.getfield idx, 3)) (hk : kO 1 (hKd h a)) (ho : hFR h 508 a = o) (kk : X G c K d mc ms Q bc bs h (pc + 3) lv (va_rf o :: st)) : X G c K d mc ms Q bc bs h pc lv (.ref a :: st) := x_getf clX2 0 (by decide) hl rfl (congrArg va_rf ho) hd hk kk
theorem xh1_0 {b : Nat} {a idx : Nat} (hl : LkF K idx "MustardMill$Mill" "stocks" "[I") (hd : decode (kc K) pc = .ok (.getfield idx, 3)) (hk : kO 1 (hKd h a)) (ho : hFR h 508 a = some b) (kk : X G c K d mc ms Q bc bs h (pc + 3) lv (.ref b :: st)) : X G c K d mc ms Q bc bs h pc lv (.ref a :: st) := xg1_0 hl hd hk ho kk
theorem fj1_0 : ∀ j, j < 9 → (fid 1 j = 508 ↔ j = 0) := (fun j hj => by rcases (show j = 0 ∨ j = 1 ∨ j = 2 ∨ j = 3 ∨ j = 4 ∨ j = 5 ∨ j = 6 ∨ j = 7 ∨ j = 8 by omega) with r | r | r | r | r | r | r | r | r <;> subst r <;> decide)
theorem xp1_0 {b : Nat} {a idx : Nat} (hl : LkF K idx "MustardMill$Mill" "stocks" "[I") (hd : decode (kc K) pc = .ok (.putfield idx, 3)) (hk : hKd h a = 2) (kk : X G c K d mc ms Q bc bs (uFR h 508 a (some b)) (pc + 3) lv st) : X G c K d mc ms Q bc bs h pc lv (.ref b :: .ref a :: st) := x_putf (h' := uFR h 508 a (some b)) clX2 0 (by decide) hl rfl rfl rfl rfl rfl rfl rfl (fun q hq => Eqa.uFR hq) (e4R (by decide) (fj1_0)) hd hk kk
theorem xpn1_0 {a idx : Nat} (hl : LkF K idx "MustardMill$Mill" "stocks" "[I") (hd : decode (kc K) pc = .ok (.putfield idx, 3)) (hk : hKd h a = 2) (kk : X G c K d mc ms Q bc bs (uFR h 508 a none) (pc + 3) lv st) : X G c K d mc ms Q bc bs h pc lv (.null :: .ref a :: st) := x_putf (h' := uFR h 508 a none) clX2 0 (by decide) hl rfl rfl rfl rfl rfl rfl rfl (fun q hq => Eqa.uFR hq) (e4R (by decide) (fj1_0)) hd hk kk
theorem xg1_1 {o : Option Nat} {a idx : Nat} (hl : LkF K idx "MustardMill$Mill" "querns" "[LMustardMill$Quern;") (hd : decode (kc K) pc = .ok (.getfield idx, 3)) (hk : kO 1 (hKd h a)) (ho : hFR h 509 a = o) (kk : X G c K d mc ms Q bc bs h (pc + 3) lv (va_rf o :: st)) : X G c K d mc ms Q bc bs h pc lv (.ref a :: st) := x_getf clX2 1 (by decide) hl rfl (congrArg va_rf ho) hd hk kk
theorem xh1_1 {b : Nat} {a idx : Nat} (hl : LkF K idx "MustardMill$Mill" "querns" "[LMustardMill$Quern;") (hd : decode (kc K) pc = .ok (.getfield idx, 3)) (hk : kO 1 (hKd h a)) (ho : hFR h 509 a = some b) (kk : X G c K d mc ms Q bc bs h (pc + 3) lv (.ref b :: st)) : X G c K d mc ms Q bc bs h pc lv (.ref a :: st) := xg1_1 hl hd hk ho kk
theorem fj1_1 : ∀ j, j < 9 → (fid 1 j = 509 ↔ j = 1) := (fun j hj => by rcases (show j = 0 ∨ j = 1 ∨ j = 2 ∨ j = 3 ∨ j = 4 ∨ j = 5 ∨ j = 6 ∨ j = 7 ∨ j = 8 by omega) with r | r | r | r | r | r | r | r | r <;> subst r <;> decide)
theorem xp1_1 {b : Nat} {a idx : Nat} (hl : LkF K idx "MustardMill$Mill" "querns" "[LMustardMill$Quern;") (hd : decode (kc K) pc = .ok (.putfield idx, 3)) (hk : hKd h a = 2) (kk : X G c K d mc ms Q bc bs (uFR h 509 a (some b)) (pc + 3) lv st) : X G c K d mc ms Q bc bs h pc lv (.ref b :: .ref a :: st) := x_putf (h' := uFR h 509 a (some b)) clX2 1 (by decide) hl rfl rfl rfl rfl rfl rfl rfl (fun q hq => Eqa.uFR hq) (e4R (by decide) (fj1_1)) hd hk kk
theorem xpn1_1 {a idx : Nat} (hl : LkF K idx "MustardMill$Mill" "querns" "[LMustardMill$Quern;") (hd : decode (kc K) pc = .ok (.putfield idx, 3)) (hk : hKd h a = 2) (kk : X G c K d mc ms Q bc bs (uFR h 509 a none) (pc + 3) lv st) : X G c K d mc ms Q bc bs h pc lv (.null :: .ref a :: st) := x_putf (h' := uFR h 509 a none) clX2 1 (by decide) hl rfl rfl rfl rfl rfl rfl rfl (fun q hq => Eqa.uFR hq) (e4R (by decide) (fj1_1)) hd hk kk
theorem xg1_2 {o : Option Nat} {a idx : Nat} (hl : LkF K idx "MustardMill$Mill" "batches" "LMustardMill$Shelf;") (hd : decode (kc K) pc = .ok (.getfield idx, 3)) (hk : kO 1 (hKd h a)) (ho : hFR h 510 a = o) (kk : X G c K d mc ms Q bc bs h (pc + 3) lv (va_rf o :: st)) : X G c K d mc ms Q bc bs h pc lv (.ref a :: st) := x_getf clX2 2 (by decide) hl rfl (congrArg va_rf ho) hd hk kk
theorem xh1_2 {b : Nat} {a idx : Nat} (hl : LkF K idx "MustardMill$Mill" "batches" "LMustardMill$Shelf;") (hd : decode (kc K) pc = .ok (.getfield idx, 3)) (hk : kO 1 (hKd h a)) (ho : hFR h 510 a = some b) (kk : X G c K d mc ms Q bc bs h (pc + 3) lv (.ref b :: st)) : X G c K d mc ms Q bc bs h pc lv (.ref a :: st) := xg1_2 hl hd hk ho kk
theorem fj1_2 : ∀ j, j < 9 → (fid 1 j = 510 ↔ j = 2) := (fun j hj => by rcases (show j = 0 ∨ j = 1 ∨ j = 2 ∨ j = 3 ∨ j = 4 ∨ j = 5 ∨ j = 6 ∨ j = 7 ∨ j = 8 by omega) with r | r | r | r | r | r | r | r | r <;> subst r <;> decide)
theorem xp1_2 {b : Nat} {a idx : Nat} (hl : LkF K idx "MustardMill$Mill" "batches" "LMustardMill$Shelf;") (hd : decode (kc K) pc = .ok (.putfield idx, 3)) (hk : hKd h a = 2) (kk : X G c K d mc ms Q bc bs (uFR h 510 a (some b)) (pc + 3) lv st) : X G c K d mc ms Q bc bs h pc lv (.ref b :: .ref a :: st) := x_putf (h' := uFR h 510 a (some b)) clX2 2 (by decide) hl rfl rfl rfl rfl rfl rfl rfl (fun q hq => Eqa.uFR hq) (e4R (by decide) (fj1_2)) hd hk kk
theorem xpn1_2 {a idx : Nat} (hl : LkF K idx "MustardMill$Mill" "batches" "LMustardMill$Shelf;") (hd : decode (kc K) pc = .ok (.putfield idx, 3)) (hk : hKd h a = 2) (kk : X G c K d mc ms Q bc bs (uFR h 510 a none) (pc + 3) lv st) : X G c K d mc ms Q bc bs h pc lv (.null :: .ref a :: st) := x_putf (h' := uFR h 510 a none) clX2 2 (by decide) hl rfl rfl rfl rfl rfl rfl rfl (fun q hq => Eqa.uFR hq) (e4R (by decide) (fj1_2)) hd hk kk
theorem xg1_3 {o : Option Nat} {a idx : Nat} (hl : LkF K idx "MustardMill$Mill" "jars" "LMustardMill$Shelf;") (hd : decode (kc K) pc = .ok (.getfield idx, 3)) (hk : kO 1 (hKd h a)) (ho : hFR h 511 a = o) (kk : X G c K d mc ms Q bc bs h (pc + 3) lv (va_rf o :: st)) : X G c K d mc ms Q bc bs h pc lv (.ref a :: st) := x_getf clX2 3 (by decide) hl rfl (congrArg va_rf ho) hd hk kk
theorem xh1_3 {b : Nat} {a idx : Nat} (hl : LkF K idx "MustardMill$Mill" "jars" "LMustardMill$Shelf;") (hd : decode (kc K) pc = .ok (.getfield idx, 3)) (hk : kO 1 (hKd h a)) (ho : hFR h 511 a = some b) (kk : X G c K d mc ms Q bc bs h (pc + 3) lv (.ref b :: st)) : X G c K d mc ms Q bc bs h pc lv (.ref a :: st) := xg1_3 hl hd hk ho kk
theorem fj1_3 : ∀ j, j < 9 → (fid 1 j = 511 ↔ j = 3) := (fun j hj => by rcases (show j = 0 ∨ j = 1 ∨ j = 2 ∨ j = 3 ∨ j = 4 ∨ j = 5 ∨ j = 6 ∨ j = 7 ∨ j = 8 by omega) with r | r | r | r | r | r | r | r | r <;> subst r <;> decide)
theorem xp1_3 {b : Nat} {a idx : Nat} (hl : LkF K idx "MustardMill$Mill" "jars" "LMustardMill$Shelf;") (hd : decode (kc K) pc = .ok (.putfield idx, 3)) (hk : hKd h a = 2) (kk : X G c K d mc ms Q bc bs (uFR h 511 a (some b)) (pc + 3) lv st) : X G c K d mc ms Q bc bs h pc lv (.ref b :: .ref a :: st) := x_putf (h' := uFR h 511 a (some b)) clX2 3 (by decide) hl rfl rfl rfl rfl rfl rfl rfl (fun q hq => Eqa.uFR hq) (e4R (by decide) (fj1_3)) hd hk kk
theorem xpn1_3 {a idx : Nat} (hl : LkF K idx "MustardMill$Mill" "jars" "LMustardMill$Shelf;") (hd : decode (kc K) pc = .ok (.putfield idx, 3)) (hk : hKd h a = 2) (kk : X G c K d mc ms Q bc bs (uFR h 511 a none) (pc + 3) lv st) : X G c K d mc ms Q bc bs h pc lv (.null :: .ref a :: st) := x_putf (h' := uFR h 511 a none) clX2 3 (by decide) hl rfl rfl rfl rfl rfl rfl rfl (fun q hq => Eqa.uFR hq) (e4R (by decide) (fj1_3)) hd hk kk
theorem xg1_4 {o : Option Nat} {a idx : Nat} (hl : LkF K idx "MustardMill$Mill" "wishes" "LMustardMill$Shelf;") (hd : decode (kc K) pc = .ok (.getfield idx, 3)) (hk : kO 1 (hKd h a)) (ho : hFR h 512 a = o) (kk : X G c K d mc ms Q bc bs h (pc + 3) lv (va_rf o :: st)) : X G c K d mc ms Q bc bs h pc lv (.ref a :: st) := x_getf clX2 4 (by decide) hl rfl (congrArg va_rf ho) hd hk kk
theorem xh1_4 {b : Nat} {a idx : Nat} (hl : LkF K idx "MustardMill$Mill" "wishes" "LMustardMill$Shelf;") (hd : decode (kc K) pc = .ok (.getfield idx, 3)) (hk : kO 1 (hKd h a)) (ho : hFR h 512 a = some b) (kk : X G c K d mc ms Q bc bs h (pc + 3) lv (.ref b :: st)) : X G c K d mc ms Q bc bs h pc lv (.ref a :: st) := xg1_4 hl hd hk ho kk
theorem fj1_4 : ∀ j, j < 9 → (fid 1 j = 512 ↔ j = 4) := (fun j hj => by rcases (show j = 0 ∨ j = 1 ∨ j = 2 ∨ j = 3 ∨ j = 4 ∨ j = 5 ∨ j = 6 ∨ j = 7 ∨ j = 8 by omega) with r | r | r | r | r | r | r | r | r <;> subst r <;> decide)
theorem xp1_4 {b : Nat} {a idx : Nat} (hl : LkF K idx "MustardMill$Mill" "wishes" "LMustardMill$Shelf;") (hd : decode (kc K) pc = .ok (.putfield idx, 3)) (hk : hKd h a = 2) (kk : X G c K d mc ms Q bc bs (uFR h 512 a (some b)) (pc + 3) lv st) : X G c K d mc ms Q bc bs h pc lv (.ref b :: .ref a :: st) := x_putf (h' := uFR h 512 a (some b)) clX2 4 (by decide) hl rfl rfl rfl rfl rfl rfl rfl (fun q hq => Eqa.uFR hq) (e4R (by decide) (fj1_4)) hd hk kk
theorem xpn1_4 {a idx : Nat} (hl : LkF K idx "MustardMill$Mill" "wishes" "LMustardMill$Shelf;") (hd : decode (kc K) pc = .ok (.putfield idx, 3)) (hk : hKd h a = 2) (kk : X G c K d mc ms Q bc bs (uFR h 512 a none) (pc + 3) lv st) : X G c K d mc ms Q bc bs h pc lv (.null :: .ref a :: st) := x_putf (h' := uFR h 512 a none) clX2 4 (by decide) hl rfl rfl rfl rfl rfl rfl rfl (fun q hq => Eqa.uFR hq) (e4R (by decide) (fj1_4)) hd hk kk
theorem xg1_5 {o : Option Nat} {a idx : Nat} (hl : LkF K idx "MustardMill$Mill" "tray" "[LMustardMill$Thing;") (hd : decode (kc K) pc = .ok (.getfield idx, 3)) (hk : kO 1 (hKd h a)) (ho : hFR h 513 a = o) (kk : X G c K d mc ms Q bc bs h (pc + 3) lv (va_rf o :: st)) : X G c K d mc ms Q bc bs h pc lv (.ref a :: st) := x_getf clX2 5 (by decide) hl rfl (congrArg va_rf ho) hd hk kk
theorem xh1_5 {b : Nat} {a idx : Nat} (hl : LkF K idx "MustardMill$Mill" "tray" "[LMustardMill$Thing;") (hd : decode (kc K) pc = .ok (.getfield idx, 3)) (hk : kO 1 (hKd h a)) (ho : hFR h 513 a = some b) (kk : X G c K d mc ms Q bc bs h (pc + 3) lv (.ref b :: st)) : X G c K d mc ms Q bc bs h pc lv (.ref a :: st) := xg1_5 hl hd hk ho kk
theorem fj1_5 : ∀ j, j < 9 → (fid 1 j = 513 ↔ j = 5) := (fun j hj => by rcases (show j = 0 ∨ j = 1 ∨ j = 2 ∨ j = 3 ∨ j = 4 ∨ j = 5 ∨ j = 6 ∨ j = 7 ∨ j = 8 by omega) with r | r | r | r | r | r | r | r | r <;> subst r <;> decide)
theorem xp1_5 {b : Nat} {a idx : Nat} (hl : LkF K idx "MustardMill$Mill" "tray" "[LMustardMill$Thing;") (hd : decode (kc K) pc = .ok (.putfield idx, 3)) (hk : hKd h a = 2) (kk : X G c K d mc ms Q bc bs (uFR h 513 a (some b)) (pc + 3) lv st) : X G c K d mc ms Q bc bs h pc lv (.ref b :: .ref a :: st) := x_putf (h' := uFR h 513 a (some b)) clX2 5 (by decide) hl rfl rfl rfl rfl rfl rfl rfl (fun q hq => Eqa.uFR hq) (e4R (by decide) (fj1_5)) hd hk kk
theorem xpn1_5 {a idx : Nat} (hl : LkF K idx "MustardMill$Mill" "tray" "[LMustardMill$Thing;") (hd : decode (kc K) pc = .ok (.putfield idx, 3)) (hk : hKd h a = 2) (kk : X G c K d mc ms Q bc bs (uFR h 513 a none) (pc + 3) lv st) : X G c K d mc ms Q bc bs h pc lv (.null :: .ref a :: st) := x_putf (h' := uFR h 513 a none) clX2 5 (by decide) hl rfl rfl rfl rfl rfl rfl rfl (fun q hq => Eqa.uFR hq) (e4R (by decide) (fj1_5)) hd hk kk
theorem xg1_6 {a idx : Nat} (hl : LkF K idx "MustardMill$Mill" "coins" "I") (hd : decode (kc K) pc = .ok (.getfield idx, 3)) (hk : kO 1 (hKd h a)) (kk : X G c K d mc ms Q bc bs h (pc + 3) lv (.int (hFI h 2 a) :: st)) : X G c K d mc ms Q bc bs h pc lv (.ref a :: st) := x_getf clX2 6 (by decide) hl rfl rfl hd hk kk
theorem fj1_6 : ∀ j, j < 9 → (fid 1 j = 2 ↔ j = 6) := (fun j hj => by rcases (show j = 0 ∨ j = 1 ∨ j = 2 ∨ j = 3 ∨ j = 4 ∨ j = 5 ∨ j = 6 ∨ j = 7 ∨ j = 8 by omega) with r | r | r | r | r | r | r | r | r <;> subst r <;> decide)
theorem xp1_6 {v : Int32} {a idx : Nat} (hl : LkF K idx "MustardMill$Mill" "coins" "I") (hd : decode (kc K) pc = .ok (.putfield idx, 3)) (hk : hKd h a = 2) (kk : X G c K d mc ms Q bc bs (uFI h 2 a v) (pc + 3) lv st) : X G c K d mc ms Q bc bs h pc lv (.int v :: .ref a :: st) := x_putf (h' := uFI h 2 a v) clX2 6 (by decide) hl rfl rfl rfl rfl rfl rfl rfl (fun q hq => Eqa.uFI hq) (e4I (by decide) (fj1_6)) hd hk kk
theorem xg1_7 {a idx : Nat} (hl : LkF K idx "MustardMill$Mill" "got" "I") (hd : decode (kc K) pc = .ok (.getfield idx, 3)) (hk : kO 1 (hKd h a)) (kk : X G c K d mc ms Q bc bs h (pc + 3) lv (.int (hFI h 3 a) :: st)) : X G c K d mc ms Q bc bs h pc lv (.ref a :: st) := x_getf clX2 7 (by decide) hl rfl rfl hd hk kk
theorem fj1_7 : ∀ j, j < 9 → (fid 1 j = 3 ↔ j = 7) := (fun j hj => by rcases (show j = 0 ∨ j = 1 ∨ j = 2 ∨ j = 3 ∨ j = 4 ∨ j = 5 ∨ j = 6 ∨ j = 7 ∨ j = 8 by omega) with r | r | r | r | r | r | r | r | r <;> subst r <;> decide)
theorem xp1_7 {v : Int32} {a idx : Nat} (hl : LkF K idx "MustardMill$Mill" "got" "I") (hd : decode (kc K) pc = .ok (.putfield idx, 3)) (hk : hKd h a = 2) (kk : X G c K d mc ms Q bc bs (uFI h 3 a v) (pc + 3) lv st) : X G c K d mc ms Q bc bs h pc lv (.int v :: .ref a :: st) := x_putf (h' := uFI h 3 a v) clX2 7 (by decide) hl rfl rfl rfl rfl rfl rfl rfl (fun q hq => Eqa.uFI hq) (e4I (by decide) (fj1_7)) hd hk kk
theorem xg1_8 {a idx : Nat} (hl : LkF K idx "MustardMill$Mill" "day" "I") (hd : decode (kc K) pc = .ok (.getfield idx, 3)) (hk : kO 1 (hKd h a)) (kk : X G c K d mc ms Q bc bs h (pc + 3) lv (.int (hFI h 4 a) :: st)) : X G c K d mc ms Q bc bs h pc lv (.ref a :: st) := x_getf clX2 8 (by decide) hl rfl rfl hd hk kk
theorem fj1_8 : ∀ j, j < 9 → (fid 1 j = 4 ↔ j = 8) := (fun j hj => by rcases (show j = 0 ∨ j = 1 ∨ j = 2 ∨ j = 3 ∨ j = 4 ∨ j = 5 ∨ j = 6 ∨ j = 7 ∨ j = 8 by omega) with r | r | r | r | r | r | r | r | r <;> subst r <;> decide)
theorem xp1_8 {v : Int32} {a idx : Nat} (hl : LkF K idx "MustardMill$Mill" "day" "I") (hd : decode (kc K) pc = .ok (.putfield idx, 3)) (hk : hKd h a = 2) (kk : X G c K d mc ms Q bc bs (uFI h 4 a v) (pc + 3) lv st) : X G c K d mc ms Q bc bs h pc lv (.int v :: .ref a :: st) := x_putf (h' := uFI h 4 a v) clX2 8 (by decide) hl rfl rfl rfl rfl rfl rfl rfl (fun q hq => Eqa.uFI hq) (e4I (by decide) (fj1_8)) hd hk kk
theorem xg2_0 {a idx : Nat} (hl : LkF K idx "MustardMill$Quern" "number" "I") (hd : decode (kc K) pc = .ok (.getfield idx, 3)) (hk : kO 2 (hKd h a)) (kk : X G c K d mc ms Q bc bs h (pc + 3) lv (.int (hFI h 5 a) :: st)) : X G c K d mc ms Q bc bs h pc lv (.ref a :: st) := x_getf clX3 0 (by decide) hl rfl rfl hd hk kk
theorem fj2_0 : ∀ j, j < 4 → (fid 2 j = 5 ↔ j = 0) := (fun j hj => by rcases (show j = 0 ∨ j = 1 ∨ j = 2 ∨ j = 3 by omega) with r | r | r | r <;> subst r <;> decide)
theorem xp2_0 {v : Int32} {a idx : Nat} (hl : Cond.fieldLink (ky K).cls idx "MustardMill$Quern" "number" "I" ∈ lw_all) (hy : (ky K).cls = "MustardMill$Quern" ∧ (ky K).name = "<init>") (hd : decode (kc K) pc = .ok (.putfield idx, 3)) (hk : hKd h a = 3) (kk : X G c K d mc ms Q bc bs (uFI h 5 a v) (pc + 3) lv st) : X G c K d mc ms Q bc bs h pc lv (.int v :: .ref a :: st) := x_putF (h' := uFI h 5 a v) clX3 0 (by decide) hl rfl hy.2 hy.1.symm rfl rfl rfl rfl rfl (fun q hq => Eqa.uFI hq) (e4I (by decide) (fj2_0)) hd hk kk
theorem xg2_1 {a idx : Nat} (hl : LkF K idx "MustardMill$Quern" "dress" "I") (hd : decode (kc K) pc = .ok (.getfield idx, 3)) (hk : kO 2 (hKd h a)) (kk : X G c K d mc ms Q bc bs h (pc + 3) lv (.int (hFI h 6 a) :: st)) : X G c K d mc ms Q bc bs h pc lv (.ref a :: st) := x_getf clX3 1 (by decide) hl rfl rfl hd hk kk
theorem fj2_1 : ∀ j, j < 4 → (fid 2 j = 6 ↔ j = 1) := (fun j hj => by rcases (show j = 0 ∨ j = 1 ∨ j = 2 ∨ j = 3 by omega) with r | r | r | r <;> subst r <;> decide)
theorem xp2_1 {v : Int32} {a idx : Nat} (hl : LkF K idx "MustardMill$Quern" "dress" "I") (hd : decode (kc K) pc = .ok (.putfield idx, 3)) (hk : hKd h a = 3) (kk : X G c K d mc ms Q bc bs (uFI h 6 a v) (pc + 3) lv st) : X G c K d mc ms Q bc bs h pc lv (.int v :: .ref a :: st) := x_putf (h' := uFI h 6 a v) clX3 1 (by decide) hl rfl rfl rfl rfl rfl rfl rfl (fun q hq => Eqa.uFI hq) (e4I (by decide) (fj2_1)) hd hk kk
theorem xg2_2 {a idx : Nat} (hl : LkF K idx "MustardMill$Quern" "heat" "I") (hd : decode (kc K) pc = .ok (.getfield idx, 3)) (hk : kO 2 (hKd h a)) (kk : X G c K d mc ms Q bc bs h (pc + 3) lv (.int (hFI h 7 a) :: st)) : X G c K d mc ms Q bc bs h pc lv (.ref a :: st) := x_getf clX3 2 (by decide) hl rfl rfl hd hk kk
theorem fj2_2 : ∀ j, j < 4 → (fid 2 j = 7 ↔ j = 2) := (fun j hj => by rcases (show j = 0 ∨ j = 1 ∨ j = 2 ∨ j = 3 by omega) with r | r | r | r <;> subst r <;> decide)
theorem xp2_2 {v : Int32} {a idx : Nat} (hl : LkF K idx "MustardMill$Quern" "heat" "I") (hd : decode (kc K) pc = .ok (.putfield idx, 3)) (hk : hKd h a = 3) (kk : X G c K d mc ms Q bc bs (uFI h 7 a v) (pc + 3) lv st) : X G c K d mc ms Q bc bs h pc lv (.int v :: .ref a :: st) := x_putf (h' := uFI h 7 a v) clX3 2 (by decide) hl rfl rfl rfl rfl rfl rfl rfl (fun q hq => Eqa.uFI hq) (e4I (by decide) (fj2_2)) hd hk kk
theorem xg2_3 {a idx : Nat} (hl : LkF K idx "MustardMill$Quern" "grams" "I") (hd : decode (kc K) pc = .ok (.getfield idx, 3)) (hk : kO 2 (hKd h a)) (kk : X G c K d mc ms Q bc bs h (pc + 3) lv (.int (hFI h 8 a) :: st)) : X G c K d mc ms Q bc bs h pc lv (.ref a :: st) := x_getf clX3 3 (by decide) hl rfl rfl hd hk kk
theorem fj2_3 : ∀ j, j < 4 → (fid 2 j = 8 ↔ j = 3) := (fun j hj => by rcases (show j = 0 ∨ j = 1 ∨ j = 2 ∨ j = 3 by omega) with r | r | r | r <;> subst r <;> decide)
theorem xp2_3 {v : Int32} {a idx : Nat} (hl : LkF K idx "MustardMill$Quern" "grams" "I") (hd : decode (kc K) pc = .ok (.putfield idx, 3)) (hk : hKd h a = 3) (kk : X G c K d mc ms Q bc bs (uFI h 8 a v) (pc + 3) lv st) : X G c K d mc ms Q bc bs h pc lv (.int v :: .ref a :: st) := x_putf (h' := uFI h 8 a v) clX3 3 (by decide) hl rfl rfl rfl rfl rfl rfl rfl (fun q hq => Eqa.uFI hq) (e4I (by decide) (fj2_3)) hd hk kk
theorem xg3_0 {o : Option Nat} {a idx : Nat} (hl : LkF K idx "MustardMill$Shelf" "things" "Ljava/util/ArrayList;") (hd : decode (kc K) pc = .ok (.getfield idx, 3)) (hk : kO 3 (hKd h a)) (ho : hFR h 514 a = o) (kk : X G c K d mc ms Q bc bs h (pc + 3) lv (va_rf o :: st)) : X G c K d mc ms Q bc bs h pc lv (.ref a :: st) := x_getf clX4 0 (by decide) hl rfl (congrArg va_rf ho) hd hk kk
theorem xh3_0 {b : Nat} {a idx : Nat} (hl : LkF K idx "MustardMill$Shelf" "things" "Ljava/util/ArrayList;") (hd : decode (kc K) pc = .ok (.getfield idx, 3)) (hk : kO 3 (hKd h a)) (ho : hFR h 514 a = some b) (kk : X G c K d mc ms Q bc bs h (pc + 3) lv (.ref b :: st)) : X G c K d mc ms Q bc bs h pc lv (.ref a :: st) := xg3_0 hl hd hk ho kk
theorem fj3_0 : ∀ j, j < 2 → (fid 3 j = 514 ↔ j = 0) := (fun j hj => by rcases (show j = 0 ∨ j = 1 by omega) with r | r <;> subst r <;> decide)
theorem xp3_0 {b : Nat} {a idx : Nat} (hl : Cond.fieldLink (ky K).cls idx "MustardMill$Shelf" "things" "Ljava/util/ArrayList;" ∈ lw_all) (hy : (ky K).cls = "MustardMill$Shelf" ∧ (ky K).name = "<init>") (hd : decode (kc K) pc = .ok (.putfield idx, 3)) (hk : hKd h a = 4) (kk : X G c K d mc ms Q bc bs (uFR h 514 a (some b)) (pc + 3) lv st) : X G c K d mc ms Q bc bs h pc lv (.ref b :: .ref a :: st) := x_putF (h' := uFR h 514 a (some b)) clX4 0 (by decide) hl rfl hy.2 hy.1.symm rfl rfl rfl rfl rfl (fun q hq => Eqa.uFR hq) (e4R (by decide) (fj3_0)) hd hk kk
theorem xpn3_0 {a idx : Nat} (hl : Cond.fieldLink (ky K).cls idx "MustardMill$Shelf" "things" "Ljava/util/ArrayList;" ∈ lw_all) (hy : (ky K).cls = "MustardMill$Shelf" ∧ (ky K).name = "<init>") (hd : decode (kc K) pc = .ok (.putfield idx, 3)) (hk : hKd h a = 4) (kk : X G c K d mc ms Q bc bs (uFR h 514 a none) (pc + 3) lv st) : X G c K d mc ms Q bc bs h pc lv (.null :: .ref a :: st) := x_putF (h' := uFR h 514 a none) clX4 0 (by decide) hl rfl hy.2 hy.1.symm rfl rfl rfl rfl rfl (fun q hq => Eqa.uFR hq) (e4R (by decide) (fj3_0)) hd hk kk
theorem xg3_1 {a idx : Nat} (hl : LkF K idx "MustardMill$Shelf" "most" "I") (hd : decode (kc K) pc = .ok (.getfield idx, 3)) (hk : kO 3 (hKd h a)) (kk : X G c K d mc ms Q bc bs h (pc + 3) lv (.int (hFI h 9 a) :: st)) : X G c K d mc ms Q bc bs h pc lv (.ref a :: st) := x_getf clX4 1 (by decide) hl rfl rfl hd hk kk
theorem fj3_1 : ∀ j, j < 2 → (fid 3 j = 9 ↔ j = 1) := (fun j hj => by rcases (show j = 0 ∨ j = 1 by omega) with r | r <;> subst r <;> decide)
theorem xp3_1 {v : Int32} {a idx : Nat} (hl : Cond.fieldLink (ky K).cls idx "MustardMill$Shelf" "most" "I" ∈ lw_all) (hy : (ky K).cls = "MustardMill$Shelf" ∧ (ky K).name = "<init>") (hd : decode (kc K) pc = .ok (.putfield idx, 3)) (hk : hKd h a = 4) (kk : X G c K d mc ms Q bc bs (uFI h 9 a v) (pc + 3) lv st) : X G c K d mc ms Q bc bs h pc lv (.int v :: .ref a :: st) := x_putF (h' := uFI h 9 a v) clX4 1 (by decide) hl rfl hy.2 hy.1.symm rfl rfl rfl rfl rfl (fun q hq => Eqa.uFI hq) (e4I (by decide) (fj3_1)) hd hk kk
theorem xg4_0 {a idx : Nat} (hl : LkF K idx "MustardMill$Thing" "number" "I") (hd : decode (kc K) pc = .ok (.getfield idx, 3)) (hk : kO 4 (hKd h a)) (kk : X G c K d mc ms Q bc bs h (pc + 3) lv (.int (hFI h 10 a) :: st)) : X G c K d mc ms Q bc bs h pc lv (.ref a :: st) := x_getf clX9 0 (by decide) hl rfl rfl hd hk kk
theorem fj4_0 : ∀ j, j < 8 → (fid 4 j = 10 ↔ j = 0) := (fun j hj => by rcases (show j = 0 ∨ j = 1 ∨ j = 2 ∨ j = 3 ∨ j = 4 ∨ j = 5 ∨ j = 6 ∨ j = 7 by omega) with r | r | r | r | r | r | r | r <;> subst r <;> decide)
theorem xp4_0 {v : Int32} {a idx : Nat} (hl : Cond.fieldLink (ky K).cls idx "MustardMill$Thing" "number" "I" ∈ lw_all) (hy : (ky K).cls = "MustardMill$Thing" ∧ (ky K).name = "<init>") (hd : decode (kc K) pc = .ok (.putfield idx, 3)) (hk : hKd h a = 5) (kk : X G c K d mc ms Q bc bs (uFI h 10 a v) (pc + 3) lv st) : X G c K d mc ms Q bc bs h pc lv (.int v :: .ref a :: st) := x_putF (h' := uFI h 10 a v) clX9 0 (by decide) hl rfl hy.2 hy.1.symm rfl rfl rfl rfl rfl (fun q hq => Eqa.uFI hq) (e4I (by decide) (fj4_0)) hd hk kk
theorem xg4_1 {a idx : Nat} (hl : LkF K idx "MustardMill$Thing" "state" "I") (hd : decode (kc K) pc = .ok (.getfield idx, 3)) (hk : kO 4 (hKd h a)) (kk : X G c K d mc ms Q bc bs h (pc + 3) lv (.int (hFI h 11 a) :: st)) : X G c K d mc ms Q bc bs h pc lv (.ref a :: st) := x_getf clX9 1 (by decide) hl rfl rfl hd hk kk
theorem fj4_1 : ∀ j, j < 8 → (fid 4 j = 11 ↔ j = 1) := (fun j hj => by rcases (show j = 0 ∨ j = 1 ∨ j = 2 ∨ j = 3 ∨ j = 4 ∨ j = 5 ∨ j = 6 ∨ j = 7 by omega) with r | r | r | r | r | r | r | r <;> subst r <;> decide)
theorem xp4_1 {v : Int32} {a idx : Nat} (hl : LkF K idx "MustardMill$Thing" "state" "I") (hd : decode (kc K) pc = .ok (.putfield idx, 3)) (hk : hKd h a = 5) (kk : X G c K d mc ms Q bc bs (uFI h 11 a v) (pc + 3) lv st) : X G c K d mc ms Q bc bs h pc lv (.int v :: .ref a :: st) := x_putf (h' := uFI h 11 a v) clX9 1 (by decide) hl rfl rfl rfl rfl rfl rfl rfl (fun q hq => Eqa.uFI hq) (e4I (by decide) (fj4_1)) hd hk kk
theorem xg4_2 {a idx : Nat} (hl : LkF K idx "MustardMill$Batch" "grams" "I") (hd : decode (kc K) pc = .ok (.getfield idx, 3)) (hk : kO 4 (hKd h a)) (kk : X G c K d mc ms Q bc bs h (pc + 3) lv (.int (hFI h 12 a) :: st)) : X G c K d mc ms Q bc bs h pc lv (.ref a :: st) := x_getf clX9 2 (by decide) hl rfl rfl hd hk kk
theorem fj4_2 : ∀ j, j < 8 → (fid 4 j = 12 ↔ j = 2) := (fun j hj => by rcases (show j = 0 ∨ j = 1 ∨ j = 2 ∨ j = 3 ∨ j = 4 ∨ j = 5 ∨ j = 6 ∨ j = 7 by omega) with r | r | r | r | r | r | r | r <;> subst r <;> decide)
theorem xp4_2 {v : Int32} {a idx : Nat} (hl : Cond.fieldLink (ky K).cls idx "MustardMill$Batch" "grams" "I" ∈ lw_all) (hy : (ky K).cls = "MustardMill$Batch" ∧ (ky K).name = "<init>") (hd : decode (kc K) pc = .ok (.putfield idx, 3)) (hk : hKd h a = 5) (kk : X G c K d mc ms Q bc bs (uFI h 12 a v) (pc + 3) lv st) : X G c K d mc ms Q bc bs h pc lv (.int v :: .ref a :: st) := x_putF (h' := uFI h 12 a v) clX9 2 (by decide) hl rfl hy.2 hy.1.symm rfl rfl rfl rfl rfl (fun q hq => Eqa.uFI hq) (e4I (by decide) (fj4_2)) hd hk kk
theorem xg4_3 {a idx : Nat} (hl : LkF K idx "MustardMill$Batch" "grain" "I") (hd : decode (kc K) pc = .ok (.getfield idx, 3)) (hk : kO 4 (hKd h a)) (kk : X G c K d mc ms Q bc bs h (pc + 3) lv (.int (hFI h 13 a) :: st)) : X G c K d mc ms Q bc bs h pc lv (.ref a :: st) := x_getf clX9 3 (by decide) hl rfl rfl hd hk kk
theorem fj4_3 : ∀ j, j < 8 → (fid 4 j = 13 ↔ j = 3) := (fun j hj => by rcases (show j = 0 ∨ j = 1 ∨ j = 2 ∨ j = 3 ∨ j = 4 ∨ j = 5 ∨ j = 6 ∨ j = 7 by omega) with r | r | r | r | r | r | r | r <;> subst r <;> decide)
theorem xp4_3 {v : Int32} {a idx : Nat} (hl : Cond.fieldLink (ky K).cls idx "MustardMill$Batch" "grain" "I" ∈ lw_all) (hy : (ky K).cls = "MustardMill$Batch" ∧ (ky K).name = "<init>") (hd : decode (kc K) pc = .ok (.putfield idx, 3)) (hk : hKd h a = 5) (kk : X G c K d mc ms Q bc bs (uFI h 13 a v) (pc + 3) lv st) : X G c K d mc ms Q bc bs h pc lv (.int v :: .ref a :: st) := x_putF (h' := uFI h 13 a v) clX9 3 (by decide) hl rfl hy.2 hy.1.symm rfl rfl rfl rfl rfl (fun q hq => Eqa.uFI hq) (e4I (by decide) (fj4_3)) hd hk kk
theorem xg4_4 {a idx : Nat} (hl : LkF K idx "MustardMill$Batch" "bite" "I") (hd : decode (kc K) pc = .ok (.getfield idx, 3)) (hk : kO 4 (hKd h a)) (kk : X G c K d mc ms Q bc bs h (pc + 3) lv (.int (hFI h 14 a) :: st)) : X G c K d mc ms Q bc bs h pc lv (.ref a :: st) := x_getf clX9 4 (by decide) hl rfl rfl hd hk kk
theorem fj4_4 : ∀ j, j < 8 → (fid 4 j = 14 ↔ j = 4) := (fun j hj => by rcases (show j = 0 ∨ j = 1 ∨ j = 2 ∨ j = 3 ∨ j = 4 ∨ j = 5 ∨ j = 6 ∨ j = 7 by omega) with r | r | r | r | r | r | r | r <;> subst r <;> decide)
theorem xp4_4 {v : Int32} {a idx : Nat} (hl : Cond.fieldLink (ky K).cls idx "MustardMill$Batch" "bite" "I" ∈ lw_all) (hy : (ky K).cls = "MustardMill$Batch" ∧ (ky K).name = "<init>") (hd : decode (kc K) pc = .ok (.putfield idx, 3)) (hk : hKd h a = 5) (kk : X G c K d mc ms Q bc bs (uFI h 14 a v) (pc + 3) lv st) : X G c K d mc ms Q bc bs h pc lv (.int v :: .ref a :: st) := x_putF (h' := uFI h 14 a v) clX9 4 (by decide) hl rfl hy.2 hy.1.symm rfl rfl rfl rfl rfl (fun q hq => Eqa.uFI hq) (e4I (by decide) (fj4_4)) hd hk kk
theorem xg4_5 {a idx : Nat} (hl : LkF K idx "MustardMill$Batch" "left" "I") (hd : decode (kc K) pc = .ok (.getfield idx, 3)) (hk : kO 4 (hKd h a)) (kk : X G c K d mc ms Q bc bs h (pc + 3) lv (.int (hFI h 15 a) :: st)) : X G c K d mc ms Q bc bs h pc lv (.ref a :: st) := x_getf clX9 5 (by decide) hl rfl rfl hd hk kk
theorem fj4_5 : ∀ j, j < 8 → (fid 4 j = 15 ↔ j = 5) := (fun j hj => by rcases (show j = 0 ∨ j = 1 ∨ j = 2 ∨ j = 3 ∨ j = 4 ∨ j = 5 ∨ j = 6 ∨ j = 7 by omega) with r | r | r | r | r | r | r | r <;> subst r <;> decide)
theorem xp4_5 {v : Int32} {a idx : Nat} (hl : LkF K idx "MustardMill$Batch" "left" "I") (hd : decode (kc K) pc = .ok (.putfield idx, 3)) (hk : hKd h a = 5) (kk : X G c K d mc ms Q bc bs (uFI h 15 a v) (pc + 3) lv st) : X G c K d mc ms Q bc bs h pc lv (.int v :: .ref a :: st) := x_putf (h' := uFI h 15 a v) clX9 5 (by decide) hl rfl rfl rfl rfl rfl rfl rfl (fun q hq => Eqa.uFI hq) (e4I (by decide) (fj4_5)) hd hk kk
theorem xg4_6 {a idx : Nat} (hl : LkF K idx "MustardMill$Batch" "spoons" "I") (hd : decode (kc K) pc = .ok (.getfield idx, 3)) (hk : kO 4 (hKd h a)) (kk : X G c K d mc ms Q bc bs h (pc + 3) lv (.int (hFI h 16 a) :: st)) : X G c K d mc ms Q bc bs h pc lv (.ref a :: st) := x_getf clX9 6 (by decide) hl rfl rfl hd hk kk
theorem fj4_6 : ∀ j, j < 8 → (fid 4 j = 16 ↔ j = 6) := (fun j hj => by rcases (show j = 0 ∨ j = 1 ∨ j = 2 ∨ j = 3 ∨ j = 4 ∨ j = 5 ∨ j = 6 ∨ j = 7 by omega) with r | r | r | r | r | r | r | r <;> subst r <;> decide)
theorem xp4_6 {v : Int32} {a idx : Nat} (hl : LkF K idx "MustardMill$Batch" "spoons" "I") (hd : decode (kc K) pc = .ok (.putfield idx, 3)) (hk : hKd h a = 5) (kk : X G c K d mc ms Q bc bs (uFI h 16 a v) (pc + 3) lv st) : X G c K d mc ms Q bc bs h pc lv (.int v :: .ref a :: st) := x_putf (h' := uFI h 16 a v) clX9 6 (by decide) hl rfl rfl rfl rfl rfl rfl rfl (fun q hq => Eqa.uFI hq) (e4I (by decide) (fj4_6)) hd hk kk
theorem xg4_7 {a idx : Nat} (hl : LkF K idx "MustardMill$Batch" "jars" "I") (hd : decode (kc K) pc = .ok (.getfield idx, 3)) (hk : kO 4 (hKd h a)) (kk : X G c K d mc ms Q bc bs h (pc + 3) lv (.int (hFI h 17 a) :: st)) : X G c K d mc ms Q bc bs h pc lv (.ref a :: st) := x_getf clX9 7 (by decide) hl rfl rfl hd hk kk
theorem fj4_7 : ∀ j, j < 8 → (fid 4 j = 17 ↔ j = 7) := (fun j hj => by rcases (show j = 0 ∨ j = 1 ∨ j = 2 ∨ j = 3 ∨ j = 4 ∨ j = 5 ∨ j = 6 ∨ j = 7 by omega) with r | r | r | r | r | r | r | r <;> subst r <;> decide)
theorem xp4_7 {v : Int32} {a idx : Nat} (hl : LkF K idx "MustardMill$Batch" "jars" "I") (hd : decode (kc K) pc = .ok (.putfield idx, 3)) (hk : hKd h a = 5) (kk : X G c K d mc ms Q bc bs (uFI h 17 a v) (pc + 3) lv st) : X G c K d mc ms Q bc bs h pc lv (.int v :: .ref a :: st) := x_putf (h' := uFI h 17 a v) clX9 7 (by decide) hl rfl rfl rfl rfl rfl rfl rfl (fun q hq => Eqa.uFI hq) (e4I (by decide) (fj4_7)) hd hk kk
theorem xg5_0 {a idx : Nat} (hl : LkF K idx "MustardMill$Thing" "number" "I") (hd : decode (kc K) pc = .ok (.getfield idx, 3)) (hk : kO 5 (hKd h a)) (kk : X G c K d mc ms Q bc bs h (pc + 3) lv (.int (hFI h 10 a) :: st)) : X G c K d mc ms Q bc bs h pc lv (.ref a :: st) := x_getf clX11 0 (by decide) hl rfl rfl hd hk kk
theorem fj5_0 : ∀ j, j < 7 → (fid 5 j = 10 ↔ j = 0) := (fun j hj => by rcases (show j = 0 ∨ j = 1 ∨ j = 2 ∨ j = 3 ∨ j = 4 ∨ j = 5 ∨ j = 6 by omega) with r | r | r | r | r | r | r <;> subst r <;> decide)
theorem xp5_0 {v : Int32} {a idx : Nat} (hl : Cond.fieldLink (ky K).cls idx "MustardMill$Thing" "number" "I" ∈ lw_all) (hy : (ky K).cls = "MustardMill$Thing" ∧ (ky K).name = "<init>") (hd : decode (kc K) pc = .ok (.putfield idx, 3)) (hk : hKd h a = 6) (kk : X G c K d mc ms Q bc bs (uFI h 10 a v) (pc + 3) lv st) : X G c K d mc ms Q bc bs h pc lv (.int v :: .ref a :: st) := x_putF (h' := uFI h 10 a v) clX11 0 (by decide) hl rfl hy.2 hy.1.symm rfl rfl rfl rfl rfl (fun q hq => Eqa.uFI hq) (e4I (by decide) (fj5_0)) hd hk kk
theorem xg5_1 {a idx : Nat} (hl : LkF K idx "MustardMill$Thing" "state" "I") (hd : decode (kc K) pc = .ok (.getfield idx, 3)) (hk : kO 5 (hKd h a)) (kk : X G c K d mc ms Q bc bs h (pc + 3) lv (.int (hFI h 11 a) :: st)) : X G c K d mc ms Q bc bs h pc lv (.ref a :: st) := x_getf clX11 1 (by decide) hl rfl rfl hd hk kk
theorem fj5_1 : ∀ j, j < 7 → (fid 5 j = 11 ↔ j = 1) := (fun j hj => by rcases (show j = 0 ∨ j = 1 ∨ j = 2 ∨ j = 3 ∨ j = 4 ∨ j = 5 ∨ j = 6 by omega) with r | r | r | r | r | r | r <;> subst r <;> decide)
theorem xp5_1 {v : Int32} {a idx : Nat} (hl : LkF K idx "MustardMill$Thing" "state" "I") (hd : decode (kc K) pc = .ok (.putfield idx, 3)) (hk : hKd h a = 6) (kk : X G c K d mc ms Q bc bs (uFI h 11 a v) (pc + 3) lv st) : X G c K d mc ms Q bc bs h pc lv (.int v :: .ref a :: st) := x_putf (h' := uFI h 11 a v) clX11 1 (by decide) hl rfl rfl rfl rfl rfl rfl rfl (fun q hq => Eqa.uFI hq) (e4I (by decide) (fj5_1)) hd hk kk
theorem xg5_2 {a idx : Nat} (hl : LkF K idx "MustardMill$Jar" "batch" "I") (hd : decode (kc K) pc = .ok (.getfield idx, 3)) (hk : kO 5 (hKd h a)) (kk : X G c K d mc ms Q bc bs h (pc + 3) lv (.int (hFI h 18 a) :: st)) : X G c K d mc ms Q bc bs h pc lv (.ref a :: st) := x_getf clX11 2 (by decide) hl rfl rfl hd hk kk
theorem fj5_2 : ∀ j, j < 7 → (fid 5 j = 18 ↔ j = 2) := (fun j hj => by rcases (show j = 0 ∨ j = 1 ∨ j = 2 ∨ j = 3 ∨ j = 4 ∨ j = 5 ∨ j = 6 by omega) with r | r | r | r | r | r | r <;> subst r <;> decide)
theorem xp5_2 {v : Int32} {a idx : Nat} (hl : Cond.fieldLink (ky K).cls idx "MustardMill$Jar" "batch" "I" ∈ lw_all) (hy : (ky K).cls = "MustardMill$Jar" ∧ (ky K).name = "<init>") (hd : decode (kc K) pc = .ok (.putfield idx, 3)) (hk : hKd h a = 6) (kk : X G c K d mc ms Q bc bs (uFI h 18 a v) (pc + 3) lv st) : X G c K d mc ms Q bc bs h pc lv (.int v :: .ref a :: st) := x_putF (h' := uFI h 18 a v) clX11 2 (by decide) hl rfl hy.2 hy.1.symm rfl rfl rfl rfl rfl (fun q hq => Eqa.uFI hq) (e4I (by decide) (fj5_2)) hd hk kk
theorem xg5_3 {a idx : Nat} (hl : LkF K idx "MustardMill$Jar" "bite" "I") (hd : decode (kc K) pc = .ok (.getfield idx, 3)) (hk : kO 5 (hKd h a)) (kk : X G c K d mc ms Q bc bs h (pc + 3) lv (.int (hFI h 19 a) :: st)) : X G c K d mc ms Q bc bs h pc lv (.ref a :: st) := x_getf clX11 3 (by decide) hl rfl rfl hd hk kk
theorem fj5_3 : ∀ j, j < 7 → (fid 5 j = 19 ↔ j = 3) := (fun j hj => by rcases (show j = 0 ∨ j = 1 ∨ j = 2 ∨ j = 3 ∨ j = 4 ∨ j = 5 ∨ j = 6 by omega) with r | r | r | r | r | r | r <;> subst r <;> decide)
theorem xp5_3 {v : Int32} {a idx : Nat} (hl : Cond.fieldLink (ky K).cls idx "MustardMill$Jar" "bite" "I" ∈ lw_all) (hy : (ky K).cls = "MustardMill$Jar" ∧ (ky K).name = "<init>") (hd : decode (kc K) pc = .ok (.putfield idx, 3)) (hk : hKd h a = 6) (kk : X G c K d mc ms Q bc bs (uFI h 19 a v) (pc + 3) lv st) : X G c K d mc ms Q bc bs h pc lv (.int v :: .ref a :: st) := x_putF (h' := uFI h 19 a v) clX11 3 (by decide) hl rfl hy.2 hy.1.symm rfl rfl rfl rfl rfl (fun q hq => Eqa.uFI hq) (e4I (by decide) (fj5_3)) hd hk kk
theorem xg5_4 {a idx : Nat} (hl : LkF K idx "MustardMill$Jar" "ripeDays" "I") (hd : decode (kc K) pc = .ok (.getfield idx, 3)) (hk : kO 5 (hKd h a)) (kk : X G c K d mc ms Q bc bs h (pc + 3) lv (.int (hFI h 20 a) :: st)) : X G c K d mc ms Q bc bs h pc lv (.ref a :: st) := x_getf clX11 4 (by decide) hl rfl rfl hd hk kk
theorem fj5_4 : ∀ j, j < 7 → (fid 5 j = 20 ↔ j = 4) := (fun j hj => by rcases (show j = 0 ∨ j = 1 ∨ j = 2 ∨ j = 3 ∨ j = 4 ∨ j = 5 ∨ j = 6 by omega) with r | r | r | r | r | r | r <;> subst r <;> decide)
theorem xp5_4 {v : Int32} {a idx : Nat} (hl : Cond.fieldLink (ky K).cls idx "MustardMill$Jar" "ripeDays" "I" ∈ lw_all) (hy : (ky K).cls = "MustardMill$Jar" ∧ (ky K).name = "<init>") (hd : decode (kc K) pc = .ok (.putfield idx, 3)) (hk : hKd h a = 6) (kk : X G c K d mc ms Q bc bs (uFI h 20 a v) (pc + 3) lv st) : X G c K d mc ms Q bc bs h pc lv (.int v :: .ref a :: st) := x_putF (h' := uFI h 20 a v) clX11 4 (by decide) hl rfl hy.2 hy.1.symm rfl rfl rfl rfl rfl (fun q hq => Eqa.uFI hq) (e4I (by decide) (fj5_4)) hd hk kk
theorem xg5_5 {a idx : Nat} (hl : LkF K idx "MustardMill$Jar" "rested" "I") (hd : decode (kc K) pc = .ok (.getfield idx, 3)) (hk : kO 5 (hKd h a)) (kk : X G c K d mc ms Q bc bs h (pc + 3) lv (.int (hFI h 21 a) :: st)) : X G c K d mc ms Q bc bs h pc lv (.ref a :: st) := x_getf clX11 5 (by decide) hl rfl rfl hd hk kk
theorem fj5_5 : ∀ j, j < 7 → (fid 5 j = 21 ↔ j = 5) := (fun j hj => by rcases (show j = 0 ∨ j = 1 ∨ j = 2 ∨ j = 3 ∨ j = 4 ∨ j = 5 ∨ j = 6 by omega) with r | r | r | r | r | r | r <;> subst r <;> decide)
theorem xp5_5 {v : Int32} {a idx : Nat} (hl : LkF K idx "MustardMill$Jar" "rested" "I") (hd : decode (kc K) pc = .ok (.putfield idx, 3)) (hk : hKd h a = 6) (kk : X G c K d mc ms Q bc bs (uFI h 21 a v) (pc + 3) lv st) : X G c K d mc ms Q bc bs h pc lv (.int v :: .ref a :: st) := x_putf (h' := uFI h 21 a v) clX11 5 (by decide) hl rfl rfl rfl rfl rfl rfl rfl (fun q hq => Eqa.uFI hq) (e4I (by decide) (fj5_5)) hd hk kk
theorem xg5_6 {a idx : Nat} (hl : LkF K idx "MustardMill$Jar" "lost" "I") (hd : decode (kc K) pc = .ok (.getfield idx, 3)) (hk : kO 5 (hKd h a)) (kk : X G c K d mc ms Q bc bs h (pc + 3) lv (.int (hFI h 22 a) :: st)) : X G c K d mc ms Q bc bs h pc lv (.ref a :: st) := x_getf clX11 6 (by decide) hl rfl rfl hd hk kk
theorem fj5_6 : ∀ j, j < 7 → (fid 5 j = 22 ↔ j = 6) := (fun j hj => by rcases (show j = 0 ∨ j = 1 ∨ j = 2 ∨ j = 3 ∨ j = 4 ∨ j = 5 ∨ j = 6 by omega) with r | r | r | r | r | r | r <;> subst r <;> decide)
theorem xp5_6 {v : Int32} {a idx : Nat} (hl : LkF K idx "MustardMill$Jar" "lost" "I") (hd : decode (kc K) pc = .ok (.putfield idx, 3)) (hk : hKd h a = 6) (kk : X G c K d mc ms Q bc bs (uFI h 22 a v) (pc + 3) lv st) : X G c K d mc ms Q bc bs h pc lv (.int v :: .ref a :: st) := x_putf (h' := uFI h 22 a v) clX11 6 (by decide) hl rfl rfl rfl rfl rfl rfl rfl (fun q hq => Eqa.uFI hq) (e4I (by decide) (fj5_6)) hd hk kk
theorem xg6_0 {o : Option Nat} {a idx : Nat} (hl : LkF K idx "MustardMill$Jar$1" "this$0" "LMustardMill$Jar;") (hd : decode (kc K) pc = .ok (.getfield idx, 3)) (hk : kO 6 (hKd h a)) (ho : hFR h 515 a = o) (kk : X G c K d mc ms Q bc bs h (pc + 3) lv (va_rf o :: st)) : X G c K d mc ms Q bc bs h pc lv (.ref a :: st) := x_getf clX12 0 (by decide) hl rfl (congrArg va_rf ho) hd hk kk
theorem xh6_0 {b : Nat} {a idx : Nat} (hl : LkF K idx "MustardMill$Jar$1" "this$0" "LMustardMill$Jar;") (hd : decode (kc K) pc = .ok (.getfield idx, 3)) (hk : kO 6 (hKd h a)) (ho : hFR h 515 a = some b) (kk : X G c K d mc ms Q bc bs h (pc + 3) lv (.ref b :: st)) : X G c K d mc ms Q bc bs h pc lv (.ref a :: st) := xg6_0 hl hd hk ho kk
theorem fj6_0 : ∀ j, j < 1 → (fid 6 j = 515 ↔ j = 0) := (fun j hj => by rcases (show j = 0 by omega) with r <;> subst r <;> decide)
theorem xp6_0 {b : Nat} {a idx : Nat} (hl : Cond.fieldLink (ky K).cls idx "MustardMill$Jar$1" "this$0" "LMustardMill$Jar;" ∈ lw_all) (hy : (ky K).cls = "MustardMill$Jar$1" ∧ (ky K).name = "<init>") (hd : decode (kc K) pc = .ok (.putfield idx, 3)) (hk : hKd h a = 7) (kk : X G c K d mc ms Q bc bs (uFR h 515 a (some b)) (pc + 3) lv st) : X G c K d mc ms Q bc bs h pc lv (.ref b :: .ref a :: st) := x_putF (h' := uFR h 515 a (some b)) clX12 0 (by decide) hl rfl hy.2 hy.1.symm rfl rfl rfl rfl rfl (fun q hq => Eqa.uFR hq) (e4R (by decide) (fj6_0)) hd hk kk
theorem xpn6_0 {a idx : Nat} (hl : Cond.fieldLink (ky K).cls idx "MustardMill$Jar$1" "this$0" "LMustardMill$Jar;" ∈ lw_all) (hy : (ky K).cls = "MustardMill$Jar$1" ∧ (ky K).name = "<init>") (hd : decode (kc K) pc = .ok (.putfield idx, 3)) (hk : hKd h a = 7) (kk : X G c K d mc ms Q bc bs (uFR h 515 a none) (pc + 3) lv st) : X G c K d mc ms Q bc bs h pc lv (.null :: .ref a :: st) := x_putF (h' := uFR h 515 a none) clX12 0 (by decide) hl rfl hy.2 hy.1.symm rfl rfl rfl rfl rfl (fun q hq => Eqa.uFR hq) (e4R (by decide) (fj6_0)) hd hk kk
theorem xg7_0 {a idx : Nat} (hl : LkF K idx "MustardMill$Thing" "number" "I") (hd : decode (kc K) pc = .ok (.getfield idx, 3)) (hk : kO 7 (hKd h a)) (kk : X G c K d mc ms Q bc bs h (pc + 3) lv (.int (hFI h 10 a) :: st)) : X G c K d mc ms Q bc bs h pc lv (.ref a :: st) := x_getf clX14 0 (by decide) hl rfl rfl hd hk kk
theorem fj7_0 : ∀ j, j < 5 → (fid 7 j = 10 ↔ j = 0) := (fun j hj => by rcases (show j = 0 ∨ j = 1 ∨ j = 2 ∨ j = 3 ∨ j = 4 by omega) with r | r | r | r | r <;> subst r <;> decide)
theorem xp7_0 {v : Int32} {a idx : Nat} (hl : Cond.fieldLink (ky K).cls idx "MustardMill$Thing" "number" "I" ∈ lw_all) (hy : (ky K).cls = "MustardMill$Thing" ∧ (ky K).name = "<init>") (hd : decode (kc K) pc = .ok (.putfield idx, 3)) (hk : hKd h a = 8) (kk : X G c K d mc ms Q bc bs (uFI h 10 a v) (pc + 3) lv st) : X G c K d mc ms Q bc bs h pc lv (.int v :: .ref a :: st) := x_putF (h' := uFI h 10 a v) clX14 0 (by decide) hl rfl hy.2 hy.1.symm rfl rfl rfl rfl rfl (fun q hq => Eqa.uFI hq) (e4I (by decide) (fj7_0)) hd hk kk
theorem xg7_1 {a idx : Nat} (hl : LkF K idx "MustardMill$Thing" "state" "I") (hd : decode (kc K) pc = .ok (.getfield idx, 3)) (hk : kO 7 (hKd h a)) (kk : X G c K d mc ms Q bc bs h (pc + 3) lv (.int (hFI h 11 a) :: st)) : X G c K d mc ms Q bc bs h pc lv (.ref a :: st) := x_getf clX14 1 (by decide) hl rfl rfl hd hk kk
theorem fj7_1 : ∀ j, j < 5 → (fid 7 j = 11 ↔ j = 1) := (fun j hj => by rcases (show j = 0 ∨ j = 1 ∨ j = 2 ∨ j = 3 ∨ j = 4 by omega) with r | r | r | r | r <;> subst r <;> decide)
theorem xp7_1 {v : Int32} {a idx : Nat} (hl : LkF K idx "MustardMill$Thing" "state" "I") (hd : decode (kc K) pc = .ok (.putfield idx, 3)) (hk : hKd h a = 8) (kk : X G c K d mc ms Q bc bs (uFI h 11 a v) (pc + 3) lv st) : X G c K d mc ms Q bc bs h pc lv (.int v :: .ref a :: st) := x_putf (h' := uFI h 11 a v) clX14 1 (by decide) hl rfl rfl rfl rfl rfl rfl rfl (fun q hq => Eqa.uFI hq) (e4I (by decide) (fj7_1)) hd hk kk
theorem xg7_2 {a idx : Nat} (hl : LkF K idx "MustardMill$Wish" "least" "I") (hd : decode (kc K) pc = .ok (.getfield idx, 3)) (hk : kO 7 (hKd h a)) (kk : X G c K d mc ms Q bc bs h (pc + 3) lv (.int (hFI h 23 a) :: st)) : X G c K d mc ms Q bc bs h pc lv (.ref a :: st) := x_getf clX14 2 (by decide) hl rfl rfl hd hk kk
theorem fj7_2 : ∀ j, j < 5 → (fid 7 j = 23 ↔ j = 2) := (fun j hj => by rcases (show j = 0 ∨ j = 1 ∨ j = 2 ∨ j = 3 ∨ j = 4 by omega) with r | r | r | r | r <;> subst r <;> decide)
theorem xp7_2 {v : Int32} {a idx : Nat} (hl : Cond.fieldLink (ky K).cls idx "MustardMill$Wish" "least" "I" ∈ lw_all) (hy : (ky K).cls = "MustardMill$Wish" ∧ (ky K).name = "<init>") (hd : decode (kc K) pc = .ok (.putfield idx, 3)) (hk : hKd h a = 8) (kk : X G c K d mc ms Q bc bs (uFI h 23 a v) (pc + 3) lv st) : X G c K d mc ms Q bc bs h pc lv (.int v :: .ref a :: st) := x_putF (h' := uFI h 23 a v) clX14 2 (by decide) hl rfl hy.2 hy.1.symm rfl rfl rfl rfl rfl (fun q hq => Eqa.uFI hq) (e4I (by decide) (fj7_2)) hd hk kk
theorem xg7_3 {a idx : Nat} (hl : LkF K idx "MustardMill$Wish" "most" "I") (hd : decode (kc K) pc = .ok (.getfield idx, 3)) (hk : kO 7 (hKd h a)) (kk : X G c K d mc ms Q bc bs h (pc + 3) lv (.int (hFI h 24 a) :: st)) : X G c K d mc ms Q bc bs h pc lv (.ref a :: st) := x_getf clX14 3 (by decide) hl rfl rfl hd hk kk
theorem fj7_3 : ∀ j, j < 5 → (fid 7 j = 24 ↔ j = 3) := (fun j hj => by rcases (show j = 0 ∨ j = 1 ∨ j = 2 ∨ j = 3 ∨ j = 4 by omega) with r | r | r | r | r <;> subst r <;> decide)
theorem xp7_3 {v : Int32} {a idx : Nat} (hl : Cond.fieldLink (ky K).cls idx "MustardMill$Wish" "most" "I" ∈ lw_all) (hy : (ky K).cls = "MustardMill$Wish" ∧ (ky K).name = "<init>") (hd : decode (kc K) pc = .ok (.putfield idx, 3)) (hk : hKd h a = 8) (kk : X G c K d mc ms Q bc bs (uFI h 24 a v) (pc + 3) lv st) : X G c K d mc ms Q bc bs h pc lv (.int v :: .ref a :: st) := x_putF (h' := uFI h 24 a v) clX14 3 (by decide) hl rfl hy.2 hy.1.symm rfl rfl rfl rfl rfl (fun q hq => Eqa.uFI hq) (e4I (by decide) (fj7_3)) hd hk kk
theorem xg7_4 {a idx : Nat} (hl : LkF K idx "MustardMill$Wish" "jar" "I") (hd : decode (kc K) pc = .ok (.getfield idx, 3)) (hk : kO 7 (hKd h a)) (kk : X G c K d mc ms Q bc bs h (pc + 3) lv (.int (hFI h 25 a) :: st)) : X G c K d mc ms Q bc bs h pc lv (.ref a :: st) := x_getf clX14 4 (by decide) hl rfl rfl hd hk kk
theorem fj7_4 : ∀ j, j < 5 → (fid 7 j = 25 ↔ j = 4) := (fun j hj => by rcases (show j = 0 ∨ j = 1 ∨ j = 2 ∨ j = 3 ∨ j = 4 by omega) with r | r | r | r | r <;> subst r <;> decide)
theorem xp7_4 {v : Int32} {a idx : Nat} (hl : LkF K idx "MustardMill$Wish" "jar" "I") (hd : decode (kc K) pc = .ok (.putfield idx, 3)) (hk : hKd h a = 8) (kk : X G c K d mc ms Q bc bs (uFI h 25 a v) (pc + 3) lv st) : X G c K d mc ms Q bc bs h pc lv (.int v :: .ref a :: st) := x_putf (h' := uFI h 25 a v) clX14 4 (by decide) hl rfl rfl rfl rfl rfl rfl rfl (fun q hq => Eqa.uFI hq) (e4I (by decide) (fj7_4)) hd hk kk
theorem xg8_0 {o : Option Nat} {a idx : Nat} (hl : LkF K idx "MustardMill$Change" "word" "Ljava/lang/String;") (hd : decode (kc K) pc = .ok (.getfield idx, 3)) (hk : kO 8 (hKd h a)) (ho : hFR h 516 a = o) (kk : X G c K d mc ms Q bc bs h (pc + 3) lv (va_rf o :: st)) : X G c K d mc ms Q bc bs h pc lv (.ref a :: st) := x_getf clX6 0 (by decide) hl rfl (congrArg va_rf ho) hd hk kk
theorem xh8_0 {b : Nat} {a idx : Nat} (hl : LkF K idx "MustardMill$Change" "word" "Ljava/lang/String;") (hd : decode (kc K) pc = .ok (.getfield idx, 3)) (hk : kO 8 (hKd h a)) (ho : hFR h 516 a = some b) (kk : X G c K d mc ms Q bc bs h (pc + 3) lv (.ref b :: st)) : X G c K d mc ms Q bc bs h pc lv (.ref a :: st) := xg8_0 hl hd hk ho kk
theorem fj8_0 : ∀ j, j < 2 → (fid 8 j = 516 ↔ j = 0) := (fun j hj => by rcases (show j = 0 ∨ j = 1 by omega) with r | r <;> subst r <;> decide)
theorem xp8_0 {b : Nat} {a idx : Nat} (hl : Cond.fieldLink (ky K).cls idx "MustardMill$Change" "word" "Ljava/lang/String;" ∈ lw_all) (hy : (ky K).cls = "MustardMill$Change" ∧ (ky K).name = "<init>") (hd : decode (kc K) pc = .ok (.putfield idx, 3)) (hk : hKd h a = 9) (kk : X G c K d mc ms Q bc bs (uFR h 516 a (some b)) (pc + 3) lv st) : X G c K d mc ms Q bc bs h pc lv (.ref b :: .ref a :: st) := x_putF (h' := uFR h 516 a (some b)) clX6 0 (by decide) hl rfl hy.2 hy.1.symm rfl rfl rfl rfl rfl (fun q hq => Eqa.uFR hq) (e4R (by decide) (fj8_0)) hd hk kk
theorem xpn8_0 {a idx : Nat} (hl : Cond.fieldLink (ky K).cls idx "MustardMill$Change" "word" "Ljava/lang/String;" ∈ lw_all) (hy : (ky K).cls = "MustardMill$Change" ∧ (ky K).name = "<init>") (hd : decode (kc K) pc = .ok (.putfield idx, 3)) (hk : hKd h a = 9) (kk : X G c K d mc ms Q bc bs (uFR h 516 a none) (pc + 3) lv st) : X G c K d mc ms Q bc bs h pc lv (.null :: .ref a :: st) := x_putF (h' := uFR h 516 a none) clX6 0 (by decide) hl rfl hy.2 hy.1.symm rfl rfl rfl rfl rfl (fun q hq => Eqa.uFR hq) (e4R (by decide) (fj8_0)) hd hk kk
theorem xg8_1 {o : Option Nat} {a idx : Nat} (hl : LkF K idx "MustardMill$Change" "numbers" "[I") (hd : decode (kc K) pc = .ok (.getfield idx, 3)) (hk : kO 8 (hKd h a)) (ho : hFR h 517 a = o) (kk : X G c K d mc ms Q bc bs h (pc + 3) lv (va_rf o :: st)) : X G c K d mc ms Q bc bs h pc lv (.ref a :: st) := x_getf clX6 1 (by decide) hl rfl (congrArg va_rf ho) hd hk kk
theorem xh8_1 {b : Nat} {a idx : Nat} (hl : LkF K idx "MustardMill$Change" "numbers" "[I") (hd : decode (kc K) pc = .ok (.getfield idx, 3)) (hk : kO 8 (hKd h a)) (ho : hFR h 517 a = some b) (kk : X G c K d mc ms Q bc bs h (pc + 3) lv (.ref b :: st)) : X G c K d mc ms Q bc bs h pc lv (.ref a :: st) := xg8_1 hl hd hk ho kk
theorem fj8_1 : ∀ j, j < 2 → (fid 8 j = 517 ↔ j = 1) := (fun j hj => by rcases (show j = 0 ∨ j = 1 by omega) with r | r <;> subst r <;> decide)
theorem xp8_1 {b : Nat} {a idx : Nat} (hl : Cond.fieldLink (ky K).cls idx "MustardMill$Change" "numbers" "[I" ∈ lw_all) (hy : (ky K).cls = "MustardMill$Change" ∧ (ky K).name = "<init>") (hd : decode (kc K) pc = .ok (.putfield idx, 3)) (hk : hKd h a = 9) (kk : X G c K d mc ms Q bc bs (uFR h 517 a (some b)) (pc + 3) lv st) : X G c K d mc ms Q bc bs h pc lv (.ref b :: .ref a :: st) := x_putF (h' := uFR h 517 a (some b)) clX6 1 (by decide) hl rfl hy.2 hy.1.symm rfl rfl rfl rfl rfl (fun q hq => Eqa.uFR hq) (e4R (by decide) (fj8_1)) hd hk kk
theorem xpn8_1 {a idx : Nat} (hl : Cond.fieldLink (ky K).cls idx "MustardMill$Change" "numbers" "[I" ∈ lw_all) (hy : (ky K).cls = "MustardMill$Change" ∧ (ky K).name = "<init>") (hd : decode (kc K) pc = .ok (.putfield idx, 3)) (hk : hKd h a = 9) (kk : X G c K d mc ms Q bc bs (uFR h 517 a none) (pc + 3) lv st) : X G c K d mc ms Q bc bs h pc lv (.null :: .ref a :: st) := x_putF (h' := uFR h 517 a none) clX6 1 (by decide) hl rfl hy.2 hy.1.symm rfl rfl rfl rfl rfl (fun q hq => Eqa.uFR hq) (e4R (by decide) (fj8_1)) hd hk kk
theorem xg9_0 {o : Option Nat} {a idx : Nat} (hl : LkF K idx "MustardMill$Parser" "words" "[Ljava/lang/String;") (hd : decode (kc K) pc = .ok (.getfield idx, 3)) (hk : kO 9 (hKd h a)) (ho : hFR h 518 a = o) (kk : X G c K d mc ms Q bc bs h (pc + 3) lv (va_rf o :: st)) : X G c K d mc ms Q bc bs h pc lv (.ref a :: st) := x_getf clX16 0 (by decide) hl rfl (congrArg va_rf ho) hd hk kk
theorem xh9_0 {b : Nat} {a idx : Nat} (hl : LkF K idx "MustardMill$Parser" "words" "[Ljava/lang/String;") (hd : decode (kc K) pc = .ok (.getfield idx, 3)) (hk : kO 9 (hKd h a)) (ho : hFR h 518 a = some b) (kk : X G c K d mc ms Q bc bs h (pc + 3) lv (.ref b :: st)) : X G c K d mc ms Q bc bs h pc lv (.ref a :: st) := xg9_0 hl hd hk ho kk
theorem fj9_0 : ∀ j, j < 3 → (fid 9 j = 518 ↔ j = 0) := (fun j hj => by rcases (show j = 0 ∨ j = 1 ∨ j = 2 by omega) with r | r | r <;> subst r <;> decide)
theorem xp9_0 {b : Nat} {a idx : Nat} (hl : Cond.fieldLink (ky K).cls idx "MustardMill$Parser" "words" "[Ljava/lang/String;" ∈ lw_all) (hy : (ky K).cls = "MustardMill$Parser" ∧ (ky K).name = "<init>") (hd : decode (kc K) pc = .ok (.putfield idx, 3)) (hk : hKd h a = 10) (kk : X G c K d mc ms Q bc bs (uFR h 518 a (some b)) (pc + 3) lv st) : X G c K d mc ms Q bc bs h pc lv (.ref b :: .ref a :: st) := x_putF (h' := uFR h 518 a (some b)) clX16 0 (by decide) hl rfl hy.2 hy.1.symm rfl rfl rfl rfl rfl (fun q hq => Eqa.uFR hq) (e4R (by decide) (fj9_0)) hd hk kk
theorem xpn9_0 {a idx : Nat} (hl : Cond.fieldLink (ky K).cls idx "MustardMill$Parser" "words" "[Ljava/lang/String;" ∈ lw_all) (hy : (ky K).cls = "MustardMill$Parser" ∧ (ky K).name = "<init>") (hd : decode (kc K) pc = .ok (.putfield idx, 3)) (hk : hKd h a = 10) (kk : X G c K d mc ms Q bc bs (uFR h 518 a none) (pc + 3) lv st) : X G c K d mc ms Q bc bs h pc lv (.null :: .ref a :: st) := x_putF (h' := uFR h 518 a none) clX16 0 (by decide) hl rfl hy.2 hy.1.symm rfl rfl rfl rfl rfl (fun q hq => Eqa.uFR hq) (e4R (by decide) (fj9_0)) hd hk kk
theorem xg9_1 {o : Option Nat} {a idx : Nat} (hl : LkF K idx "MustardMill$Parser" "text" "Ljava/lang/CharSequence;") (hd : decode (kc K) pc = .ok (.getfield idx, 3)) (hk : kO 9 (hKd h a)) (ho : hFR h 519 a = o) (kk : X G c K d mc ms Q bc bs h (pc + 3) lv (va_rf o :: st)) : X G c K d mc ms Q bc bs h pc lv (.ref a :: st) := x_getf clX16 1 (by decide) hl rfl (congrArg va_rf ho) hd hk kk
theorem xh9_1 {b : Nat} {a idx : Nat} (hl : LkF K idx "MustardMill$Parser" "text" "Ljava/lang/CharSequence;") (hd : decode (kc K) pc = .ok (.getfield idx, 3)) (hk : kO 9 (hKd h a)) (ho : hFR h 519 a = some b) (kk : X G c K d mc ms Q bc bs h (pc + 3) lv (.ref b :: st)) : X G c K d mc ms Q bc bs h pc lv (.ref a :: st) := xg9_1 hl hd hk ho kk
theorem fj9_1 : ∀ j, j < 3 → (fid 9 j = 519 ↔ j = 1) := (fun j hj => by rcases (show j = 0 ∨ j = 1 ∨ j = 2 by omega) with r | r | r <;> subst r <;> decide)
theorem xp9_1 {b : Nat} {a idx : Nat} (hl : Cond.fieldLink (ky K).cls idx "MustardMill$Parser" "text" "Ljava/lang/CharSequence;" ∈ lw_all) (hy : (ky K).cls = "MustardMill$Parser" ∧ (ky K).name = "<init>") (hd : decode (kc K) pc = .ok (.putfield idx, 3)) (hk : hKd h a = 10) (kk : X G c K d mc ms Q bc bs (uFR h 519 a (some b)) (pc + 3) lv st) : X G c K d mc ms Q bc bs h pc lv (.ref b :: .ref a :: st) := x_putF (h' := uFR h 519 a (some b)) clX16 1 (by decide) hl rfl hy.2 hy.1.symm rfl rfl rfl rfl rfl (fun q hq => Eqa.uFR hq) (e4R (by decide) (fj9_1)) hd hk kk
theorem xpn9_1 {a idx : Nat} (hl : Cond.fieldLink (ky K).cls idx "MustardMill$Parser" "text" "Ljava/lang/CharSequence;" ∈ lw_all) (hy : (ky K).cls = "MustardMill$Parser" ∧ (ky K).name = "<init>") (hd : decode (kc K) pc = .ok (.putfield idx, 3)) (hk : hKd h a = 10) (kk : X G c K d mc ms Q bc bs (uFR h 519 a none) (pc + 3) lv st) : X G c K d mc ms Q bc bs h pc lv (.null :: .ref a :: st) := x_putF (h' := uFR h 519 a none) clX16 1 (by decide) hl rfl hy.2 hy.1.symm rfl rfl rfl rfl rfl (fun q hq => Eqa.uFR hq) (e4R (by decide) (fj9_1)) hd hk kk
theorem xg9_2 {a idx : Nat} (hl : LkF K idx "MustardMill$Parser" "position" "I") (hd : decode (kc K) pc = .ok (.getfield idx, 3)) (hk : kO 9 (hKd h a)) (kk : X G c K d mc ms Q bc bs h (pc + 3) lv (.int (hFI h 26 a) :: st)) : X G c K d mc ms Q bc bs h pc lv (.ref a :: st) := x_getf clX16 2 (by decide) hl rfl rfl hd hk kk
theorem fj9_2 : ∀ j, j < 3 → (fid 9 j = 26 ↔ j = 2) := (fun j hj => by rcases (show j = 0 ∨ j = 1 ∨ j = 2 by omega) with r | r | r <;> subst r <;> decide)
theorem xp9_2 {v : Int32} {a idx : Nat} (hl : LkF K idx "MustardMill$Parser" "position" "I") (hd : decode (kc K) pc = .ok (.putfield idx, 3)) (hk : hKd h a = 10) (kk : X G c K d mc ms Q bc bs (uFI h 26 a v) (pc + 3) lv st) : X G c K d mc ms Q bc bs h pc lv (.int v :: .ref a :: st) := x_putf (h' := uFI h 26 a v) clX16 2 (by decide) hl rfl rfl rfl rfl rfl rfl rfl (fun q hq => Eqa.uFI hq) (e4I (by decide) (fj9_2)) hd hk kk
theorem xg10_0 {o : Option Nat} {a idx : Nat} (hl : LkF K idx "java/lang/Throwable" "cause" "Ljava/lang/Throwable;") (hd : decode (kc K) pc = .ok (.getfield idx, 3)) (hk : kO 10 (hKd h a)) (ho : hFR h 520 a = o) (kk : X G c K d mc ms Q bc bs h (pc + 3) lv (va_rf o :: st)) : X G c K d mc ms Q bc bs h pc lv (.ref a :: st) := x_getf clX7 0 (by decide) hl rfl (congrArg va_rf ho) hd hk kk
theorem xh10_0 {b : Nat} {a idx : Nat} (hl : LkF K idx "java/lang/Throwable" "cause" "Ljava/lang/Throwable;") (hd : decode (kc K) pc = .ok (.getfield idx, 3)) (hk : kO 10 (hKd h a)) (ho : hFR h 520 a = some b) (kk : X G c K d mc ms Q bc bs h (pc + 3) lv (.ref b :: st)) : X G c K d mc ms Q bc bs h pc lv (.ref a :: st) := xg10_0 hl hd hk ho kk
theorem fj10_0 : ∀ j, j < 8 → (fid 10 j = 520 ↔ j = 0) := (fun j hj => by rcases (show j = 0 ∨ j = 1 ∨ j = 2 ∨ j = 3 ∨ j = 4 ∨ j = 5 ∨ j = 6 ∨ j = 7 by omega) with r | r | r | r | r | r | r | r <;> subst r <;> decide)
theorem xp10_0 {b : Nat} {a idx : Nat} (hl : LkF K idx "java/lang/Throwable" "cause" "Ljava/lang/Throwable;") (hd : decode (kc K) pc = .ok (.putfield idx, 3)) (hk : hKd h a = 11) (kk : X G c K d mc ms Q bc bs (uFR h 520 a (some b)) (pc + 3) lv st) : X G c K d mc ms Q bc bs h pc lv (.ref b :: .ref a :: st) := x_putf (h' := uFR h 520 a (some b)) clX7 0 (by decide) hl rfl rfl rfl rfl rfl rfl rfl (fun q hq => Eqa.uFR hq) (e4R (by decide) (fj10_0)) hd hk kk
theorem xpn10_0 {a idx : Nat} (hl : LkF K idx "java/lang/Throwable" "cause" "Ljava/lang/Throwable;") (hd : decode (kc K) pc = .ok (.putfield idx, 3)) (hk : hKd h a = 11) (kk : X G c K d mc ms Q bc bs (uFR h 520 a none) (pc + 3) lv st) : X G c K d mc ms Q bc bs h pc lv (.null :: .ref a :: st) := x_putf (h' := uFR h 520 a none) clX7 0 (by decide) hl rfl rfl rfl rfl rfl rfl rfl (fun q hq => Eqa.uFR hq) (e4R (by decide) (fj10_0)) hd hk kk
theorem xg10_1 {o : Option Nat} {a idx : Nat} (hl : LkF K idx "java/lang/Throwable" "stackTrace" "[Ljava/lang/StackTraceElement;") (hd : decode (kc K) pc = .ok (.getfield idx, 3)) (hk : kO 10 (hKd h a)) (ho : hFR h 521 a = o) (kk : X G c K d mc ms Q bc bs h (pc + 3) lv (va_rf o :: st)) : X G c K d mc ms Q bc bs h pc lv (.ref a :: st) := x_getf clX7 1 (by decide) hl rfl (congrArg va_rf ho) hd hk kk
theorem xh10_1 {b : Nat} {a idx : Nat} (hl : LkF K idx "java/lang/Throwable" "stackTrace" "[Ljava/lang/StackTraceElement;") (hd : decode (kc K) pc = .ok (.getfield idx, 3)) (hk : kO 10 (hKd h a)) (ho : hFR h 521 a = some b) (kk : X G c K d mc ms Q bc bs h (pc + 3) lv (.ref b :: st)) : X G c K d mc ms Q bc bs h pc lv (.ref a :: st) := xg10_1 hl hd hk ho kk
theorem fj10_1 : ∀ j, j < 8 → (fid 10 j = 521 ↔ j = 1) := (fun j hj => by rcases (show j = 0 ∨ j = 1 ∨ j = 2 ∨ j = 3 ∨ j = 4 ∨ j = 5 ∨ j = 6 ∨ j = 7 by omega) with r | r | r | r | r | r | r | r <;> subst r <;> decide)
theorem xp10_1 {b : Nat} {a idx : Nat} (hl : LkF K idx "java/lang/Throwable" "stackTrace" "[Ljava/lang/StackTraceElement;") (hd : decode (kc K) pc = .ok (.putfield idx, 3)) (hk : hKd h a = 11) (kk : X G c K d mc ms Q bc bs (uFR h 521 a (some b)) (pc + 3) lv st) : X G c K d mc ms Q bc bs h pc lv (.ref b :: .ref a :: st) := x_putf (h' := uFR h 521 a (some b)) clX7 1 (by decide) hl rfl rfl rfl rfl rfl rfl rfl (fun q hq => Eqa.uFR hq) (e4R (by decide) (fj10_1)) hd hk kk
theorem xpn10_1 {a idx : Nat} (hl : LkF K idx "java/lang/Throwable" "stackTrace" "[Ljava/lang/StackTraceElement;") (hd : decode (kc K) pc = .ok (.putfield idx, 3)) (hk : hKd h a = 11) (kk : X G c K d mc ms Q bc bs (uFR h 521 a none) (pc + 3) lv st) : X G c K d mc ms Q bc bs h pc lv (.null :: .ref a :: st) := x_putf (h' := uFR h 521 a none) clX7 1 (by decide) hl rfl rfl rfl rfl rfl rfl rfl (fun q hq => Eqa.uFR hq) (e4R (by decide) (fj10_1)) hd hk kk
theorem xg10_2 {o : Option Nat} {a idx : Nat} (hl : LkF K idx "java/lang/Throwable" "suppressedExceptions" "Ljava/util/List;") (hd : decode (kc K) pc = .ok (.getfield idx, 3)) (hk : kO 10 (hKd h a)) (ho : hFR h 522 a = o) (kk : X G c K d mc ms Q bc bs h (pc + 3) lv (va_rf o :: st)) : X G c K d mc ms Q bc bs h pc lv (.ref a :: st) := x_getf clX7 2 (by decide) hl rfl (congrArg va_rf ho) hd hk kk
theorem xh10_2 {b : Nat} {a idx : Nat} (hl : LkF K idx "java/lang/Throwable" "suppressedExceptions" "Ljava/util/List;") (hd : decode (kc K) pc = .ok (.getfield idx, 3)) (hk : kO 10 (hKd h a)) (ho : hFR h 522 a = some b) (kk : X G c K d mc ms Q bc bs h (pc + 3) lv (.ref b :: st)) : X G c K d mc ms Q bc bs h pc lv (.ref a :: st) := xg10_2 hl hd hk ho kk
theorem fj10_2 : ∀ j, j < 8 → (fid 10 j = 522 ↔ j = 2) := (fun j hj => by rcases (show j = 0 ∨ j = 1 ∨ j = 2 ∨ j = 3 ∨ j = 4 ∨ j = 5 ∨ j = 6 ∨ j = 7 by omega) with r | r | r | r | r | r | r | r <;> subst r <;> decide)
theorem xp10_2 {b : Nat} {a idx : Nat} (hl : LkF K idx "java/lang/Throwable" "suppressedExceptions" "Ljava/util/List;") (hd : decode (kc K) pc = .ok (.putfield idx, 3)) (hk : hKd h a = 11) (kk : X G c K d mc ms Q bc bs (uFR h 522 a (some b)) (pc + 3) lv st) : X G c K d mc ms Q bc bs h pc lv (.ref b :: .ref a :: st) := x_putf (h' := uFR h 522 a (some b)) clX7 2 (by decide) hl rfl rfl rfl rfl rfl rfl rfl (fun q hq => Eqa.uFR hq) (e4R (by decide) (fj10_2)) hd hk kk
theorem xpn10_2 {a idx : Nat} (hl : LkF K idx "java/lang/Throwable" "suppressedExceptions" "Ljava/util/List;") (hd : decode (kc K) pc = .ok (.putfield idx, 3)) (hk : hKd h a = 11) (kk : X G c K d mc ms Q bc bs (uFR h 522 a none) (pc + 3) lv st) : X G c K d mc ms Q bc bs h pc lv (.null :: .ref a :: st) := x_putf (h' := uFR h 522 a none) clX7 2 (by decide) hl rfl rfl rfl rfl rfl rfl rfl (fun q hq => Eqa.uFR hq) (e4R (by decide) (fj10_2)) hd hk kk
theorem xg10_3 {o : Option Nat} {a idx : Nat} (hl : LkF K idx "java/lang/Throwable" "detailMessage" "Ljava/lang/String;") (hd : decode (kc K) pc = .ok (.getfield idx, 3)) (hk : kO 10 (hKd h a)) (ho : hFR h 523 a = o) (kk : X G c K d mc ms Q bc bs h (pc + 3) lv (va_rf o :: st)) : X G c K d mc ms Q bc bs h pc lv (.ref a :: st) := x_getf clX7 3 (by decide) hl rfl (congrArg va_rf ho) hd hk kk
theorem xh10_3 {b : Nat} {a idx : Nat} (hl : LkF K idx "java/lang/Throwable" "detailMessage" "Ljava/lang/String;") (hd : decode (kc K) pc = .ok (.getfield idx, 3)) (hk : kO 10 (hKd h a)) (ho : hFR h 523 a = some b) (kk : X G c K d mc ms Q bc bs h (pc + 3) lv (.ref b :: st)) : X G c K d mc ms Q bc bs h pc lv (.ref a :: st) := xg10_3 hl hd hk ho kk
theorem fj10_3 : ∀ j, j < 8 → (fid 10 j = 523 ↔ j = 3) := (fun j hj => by rcases (show j = 0 ∨ j = 1 ∨ j = 2 ∨ j = 3 ∨ j = 4 ∨ j = 5 ∨ j = 6 ∨ j = 7 by omega) with r | r | r | r | r | r | r | r <;> subst r <;> decide)
theorem xp10_3 {b : Nat} {a idx : Nat} (hl : LkF K idx "java/lang/Throwable" "detailMessage" "Ljava/lang/String;") (hd : decode (kc K) pc = .ok (.putfield idx, 3)) (hk : hKd h a = 11) (kk : X G c K d mc ms Q bc bs (uFR h 523 a (some b)) (pc + 3) lv st) : X G c K d mc ms Q bc bs h pc lv (.ref b :: .ref a :: st) := x_putf (h' := uFR h 523 a (some b)) clX7 3 (by decide) hl rfl rfl rfl rfl rfl rfl rfl (fun q hq => Eqa.uFR hq) (e4R (by decide) (fj10_3)) hd hk kk
theorem xpn10_3 {a idx : Nat} (hl : LkF K idx "java/lang/Throwable" "detailMessage" "Ljava/lang/String;") (hd : decode (kc K) pc = .ok (.putfield idx, 3)) (hk : hKd h a = 11) (kk : X G c K d mc ms Q bc bs (uFR h 523 a none) (pc + 3) lv st) : X G c K d mc ms Q bc bs h pc lv (.null :: .ref a :: st) := x_putf (h' := uFR h 523 a none) clX7 3 (by decide) hl rfl rfl rfl rfl rfl rfl rfl (fun q hq => Eqa.uFR hq) (e4R (by decide) (fj10_3)) hd hk kk
theorem xg10_4 {o : Option Nat} {a idx : Nat} (hl : LkF K idx "java/lang/Throwable" "backtrace" "Ljava/lang/Object;") (hd : decode (kc K) pc = .ok (.getfield idx, 3)) (hk : kO 10 (hKd h a)) (ho : hFR h 524 a = o) (kk : X G c K d mc ms Q bc bs h (pc + 3) lv (va_rf o :: st)) : X G c K d mc ms Q bc bs h pc lv (.ref a :: st) := x_getf clX7 4 (by decide) hl rfl (congrArg va_rf ho) hd hk kk
theorem xh10_4 {b : Nat} {a idx : Nat} (hl : LkF K idx "java/lang/Throwable" "backtrace" "Ljava/lang/Object;") (hd : decode (kc K) pc = .ok (.getfield idx, 3)) (hk : kO 10 (hKd h a)) (ho : hFR h 524 a = some b) (kk : X G c K d mc ms Q bc bs h (pc + 3) lv (.ref b :: st)) : X G c K d mc ms Q bc bs h pc lv (.ref a :: st) := xg10_4 hl hd hk ho kk
theorem fj10_4 : ∀ j, j < 8 → (fid 10 j = 524 ↔ j = 4) := (fun j hj => by rcases (show j = 0 ∨ j = 1 ∨ j = 2 ∨ j = 3 ∨ j = 4 ∨ j = 5 ∨ j = 6 ∨ j = 7 by omega) with r | r | r | r | r | r | r | r <;> subst r <;> decide)
theorem xp10_4 {b : Nat} {a idx : Nat} (hl : LkF K idx "java/lang/Throwable" "backtrace" "Ljava/lang/Object;") (hd : decode (kc K) pc = .ok (.putfield idx, 3)) (hk : hKd h a = 11) (kk : X G c K d mc ms Q bc bs (uFR h 524 a (some b)) (pc + 3) lv st) : X G c K d mc ms Q bc bs h pc lv (.ref b :: .ref a :: st) := x_putf (h' := uFR h 524 a (some b)) clX7 4 (by decide) hl rfl rfl rfl rfl rfl rfl rfl (fun q hq => Eqa.uFR hq) (e4R (by decide) (fj10_4)) hd hk kk
theorem xpn10_4 {a idx : Nat} (hl : LkF K idx "java/lang/Throwable" "backtrace" "Ljava/lang/Object;") (hd : decode (kc K) pc = .ok (.putfield idx, 3)) (hk : hKd h a = 11) (kk : X G c K d mc ms Q bc bs (uFR h 524 a none) (pc + 3) lv st) : X G c K d mc ms Q bc bs h pc lv (.null :: .ref a :: st) := x_putf (h' := uFR h 524 a none) clX7 4 (by decide) hl rfl rfl rfl rfl rfl rfl rfl (fun q hq => Eqa.uFR hq) (e4R (by decide) (fj10_4)) hd hk kk
theorem xg10_5 {a idx : Nat} (hl : LkF K idx "java/lang/Throwable" "depth" "I") (hd : decode (kc K) pc = .ok (.getfield idx, 3)) (hk : kO 10 (hKd h a)) (kk : X G c K d mc ms Q bc bs h (pc + 3) lv (.int (hFI h 27 a) :: st)) : X G c K d mc ms Q bc bs h pc lv (.ref a :: st) := x_getf clX7 5 (by decide) hl rfl rfl hd hk kk
theorem fj10_5 : ∀ j, j < 8 → (fid 10 j = 27 ↔ j = 5) := (fun j hj => by rcases (show j = 0 ∨ j = 1 ∨ j = 2 ∨ j = 3 ∨ j = 4 ∨ j = 5 ∨ j = 6 ∨ j = 7 by omega) with r | r | r | r | r | r | r | r <;> subst r <;> decide)
theorem xp10_5 {v : Int32} {a idx : Nat} (hl : LkF K idx "java/lang/Throwable" "depth" "I") (hd : decode (kc K) pc = .ok (.putfield idx, 3)) (hk : hKd h a = 11) (kk : X G c K d mc ms Q bc bs (uFI h 27 a v) (pc + 3) lv st) : X G c K d mc ms Q bc bs h pc lv (.int v :: .ref a :: st) := x_putf (h' := uFI h 27 a v) clX7 5 (by decide) hl rfl rfl rfl rfl rfl rfl rfl (fun q hq => Eqa.uFI hq) (e4I (by decide) (fj10_5)) hd hk kk
theorem xg10_6 {a idx : Nat} (hl : LkF K idx "MustardMill$Refused" "reason" "I") (hd : decode (kc K) pc = .ok (.getfield idx, 3)) (hk : kO 10 (hKd h a)) (kk : X G c K d mc ms Q bc bs h (pc + 3) lv (.int (hFI h 28 a) :: st)) : X G c K d mc ms Q bc bs h pc lv (.ref a :: st) := x_getf clX7 6 (by decide) hl rfl rfl hd hk kk
theorem fj10_6 : ∀ j, j < 8 → (fid 10 j = 28 ↔ j = 6) := (fun j hj => by rcases (show j = 0 ∨ j = 1 ∨ j = 2 ∨ j = 3 ∨ j = 4 ∨ j = 5 ∨ j = 6 ∨ j = 7 by omega) with r | r | r | r | r | r | r | r <;> subst r <;> decide)
theorem xp10_6 {v : Int32} {a idx : Nat} (hl : Cond.fieldLink (ky K).cls idx "MustardMill$Refused" "reason" "I" ∈ lw_all) (hy : (ky K).cls = "MustardMill$Refused" ∧ (ky K).name = "<init>") (hd : decode (kc K) pc = .ok (.putfield idx, 3)) (hk : hKd h a = 11) (kk : X G c K d mc ms Q bc bs (uFI h 28 a v) (pc + 3) lv st) : X G c K d mc ms Q bc bs h pc lv (.int v :: .ref a :: st) := x_putF (h' := uFI h 28 a v) clX7 6 (by decide) hl rfl hy.2 hy.1.symm rfl rfl rfl rfl rfl (fun q hq => Eqa.uFI hq) (e4I (by decide) (fj10_6)) hd hk kk
theorem xg10_7 {a idx : Nat} (hl : LkF K idx "MustardMill$Refused" "detail" "I") (hd : decode (kc K) pc = .ok (.getfield idx, 3)) (hk : kO 10 (hKd h a)) (kk : X G c K d mc ms Q bc bs h (pc + 3) lv (.int (hFI h 29 a) :: st)) : X G c K d mc ms Q bc bs h pc lv (.ref a :: st) := x_getf clX7 7 (by decide) hl rfl rfl hd hk kk
theorem fj10_7 : ∀ j, j < 8 → (fid 10 j = 29 ↔ j = 7) := (fun j hj => by rcases (show j = 0 ∨ j = 1 ∨ j = 2 ∨ j = 3 ∨ j = 4 ∨ j = 5 ∨ j = 6 ∨ j = 7 by omega) with r | r | r | r | r | r | r | r <;> subst r <;> decide)
theorem xp10_7 {v : Int32} {a idx : Nat} (hl : Cond.fieldLink (ky K).cls idx "MustardMill$Refused" "detail" "I" ∈ lw_all) (hy : (ky K).cls = "MustardMill$Refused" ∧ (ky K).name = "<init>") (hd : decode (kc K) pc = .ok (.putfield idx, 3)) (hk : hKd h a = 11) (kk : X G c K d mc ms Q bc bs (uFI h 29 a v) (pc + 3) lv st) : X G c K d mc ms Q bc bs h pc lv (.int v :: .ref a :: st) := x_putF (h' := uFI h 29 a v) clX7 7 (by decide) hl rfl hy.2 hy.1.symm rfl rfl rfl rfl rfl (fun q hq => Eqa.uFI hq) (e4I (by decide) (fj10_7)) hd hk kk
theorem xg11_0 {o : Option Nat} {a idx : Nat} (hl : LkF K idx "java/lang/Throwable" "cause" "Ljava/lang/Throwable;") (hd : decode (kc K) pc = .ok (.getfield idx, 3)) (hk : kO 11 (hKd h a)) (ho : hFR h 520 a = o) (kk : X G c K d mc ms Q bc bs h (pc + 3) lv (va_rf o :: st)) : X G c K d mc ms Q bc bs h pc lv (.ref a :: st) := x_getf clX17 0 (by decide) hl rfl (congrArg va_rf ho) hd hk kk
theorem xh11_0 {b : Nat} {a idx : Nat} (hl : LkF K idx "java/lang/Throwable" "cause" "Ljava/lang/Throwable;") (hd : decode (kc K) pc = .ok (.getfield idx, 3)) (hk : kO 11 (hKd h a)) (ho : hFR h 520 a = some b) (kk : X G c K d mc ms Q bc bs h (pc + 3) lv (.ref b :: st)) : X G c K d mc ms Q bc bs h pc lv (.ref a :: st) := xg11_0 hl hd hk ho kk
theorem fj11_0 : ∀ j, j < 7 → (fid 11 j = 520 ↔ j = 0) := (fun j hj => by rcases (show j = 0 ∨ j = 1 ∨ j = 2 ∨ j = 3 ∨ j = 4 ∨ j = 5 ∨ j = 6 by omega) with r | r | r | r | r | r | r <;> subst r <;> decide)
theorem xp11_0 {b : Nat} {a idx : Nat} (hl : LkF K idx "java/lang/Throwable" "cause" "Ljava/lang/Throwable;") (hd : decode (kc K) pc = .ok (.putfield idx, 3)) (hk : hKd h a = 12) (kk : X G c K d mc ms Q bc bs (uFR h 520 a (some b)) (pc + 3) lv st) : X G c K d mc ms Q bc bs h pc lv (.ref b :: .ref a :: st) := x_putf (h' := uFR h 520 a (some b)) clX17 0 (by decide) hl rfl rfl rfl rfl rfl rfl rfl (fun q hq => Eqa.uFR hq) (e4R (by decide) (fj11_0)) hd hk kk
theorem xpn11_0 {a idx : Nat} (hl : LkF K idx "java/lang/Throwable" "cause" "Ljava/lang/Throwable;") (hd : decode (kc K) pc = .ok (.putfield idx, 3)) (hk : hKd h a = 12) (kk : X G c K d mc ms Q bc bs (uFR h 520 a none) (pc + 3) lv st) : X G c K d mc ms Q bc bs h pc lv (.null :: .ref a :: st) := x_putf (h' := uFR h 520 a none) clX17 0 (by decide) hl rfl rfl rfl rfl rfl rfl rfl (fun q hq => Eqa.uFR hq) (e4R (by decide) (fj11_0)) hd hk kk
theorem xg11_1 {o : Option Nat} {a idx : Nat} (hl : LkF K idx "java/lang/Throwable" "stackTrace" "[Ljava/lang/StackTraceElement;") (hd : decode (kc K) pc = .ok (.getfield idx, 3)) (hk : kO 11 (hKd h a)) (ho : hFR h 521 a = o) (kk : X G c K d mc ms Q bc bs h (pc + 3) lv (va_rf o :: st)) : X G c K d mc ms Q bc bs h pc lv (.ref a :: st) := x_getf clX17 1 (by decide) hl rfl (congrArg va_rf ho) hd hk kk
theorem xh11_1 {b : Nat} {a idx : Nat} (hl : LkF K idx "java/lang/Throwable" "stackTrace" "[Ljava/lang/StackTraceElement;") (hd : decode (kc K) pc = .ok (.getfield idx, 3)) (hk : kO 11 (hKd h a)) (ho : hFR h 521 a = some b) (kk : X G c K d mc ms Q bc bs h (pc + 3) lv (.ref b :: st)) : X G c K d mc ms Q bc bs h pc lv (.ref a :: st) := xg11_1 hl hd hk ho kk
theorem fj11_1 : ∀ j, j < 7 → (fid 11 j = 521 ↔ j = 1) := (fun j hj => by rcases (show j = 0 ∨ j = 1 ∨ j = 2 ∨ j = 3 ∨ j = 4 ∨ j = 5 ∨ j = 6 by omega) with r | r | r | r | r | r | r <;> subst r <;> decide)
theorem xp11_1 {b : Nat} {a idx : Nat} (hl : LkF K idx "java/lang/Throwable" "stackTrace" "[Ljava/lang/StackTraceElement;") (hd : decode (kc K) pc = .ok (.putfield idx, 3)) (hk : hKd h a = 12) (kk : X G c K d mc ms Q bc bs (uFR h 521 a (some b)) (pc + 3) lv st) : X G c K d mc ms Q bc bs h pc lv (.ref b :: .ref a :: st) := x_putf (h' := uFR h 521 a (some b)) clX17 1 (by decide) hl rfl rfl rfl rfl rfl rfl rfl (fun q hq => Eqa.uFR hq) (e4R (by decide) (fj11_1)) hd hk kk
theorem xpn11_1 {a idx : Nat} (hl : LkF K idx "java/lang/Throwable" "stackTrace" "[Ljava/lang/StackTraceElement;") (hd : decode (kc K) pc = .ok (.putfield idx, 3)) (hk : hKd h a = 12) (kk : X G c K d mc ms Q bc bs (uFR h 521 a none) (pc + 3) lv st) : X G c K d mc ms Q bc bs h pc lv (.null :: .ref a :: st) := x_putf (h' := uFR h 521 a none) clX17 1 (by decide) hl rfl rfl rfl rfl rfl rfl rfl (fun q hq => Eqa.uFR hq) (e4R (by decide) (fj11_1)) hd hk kk
theorem xg11_2 {o : Option Nat} {a idx : Nat} (hl : LkF K idx "java/lang/Throwable" "suppressedExceptions" "Ljava/util/List;") (hd : decode (kc K) pc = .ok (.getfield idx, 3)) (hk : kO 11 (hKd h a)) (ho : hFR h 522 a = o) (kk : X G c K d mc ms Q bc bs h (pc + 3) lv (va_rf o :: st)) : X G c K d mc ms Q bc bs h pc lv (.ref a :: st) := x_getf clX17 2 (by decide) hl rfl (congrArg va_rf ho) hd hk kk
theorem xh11_2 {b : Nat} {a idx : Nat} (hl : LkF K idx "java/lang/Throwable" "suppressedExceptions" "Ljava/util/List;") (hd : decode (kc K) pc = .ok (.getfield idx, 3)) (hk : kO 11 (hKd h a)) (ho : hFR h 522 a = some b) (kk : X G c K d mc ms Q bc bs h (pc + 3) lv (.ref b :: st)) : X G c K d mc ms Q bc bs h pc lv (.ref a :: st) := xg11_2 hl hd hk ho kk
theorem fj11_2 : ∀ j, j < 7 → (fid 11 j = 522 ↔ j = 2) := (fun j hj => by rcases (show j = 0 ∨ j = 1 ∨ j = 2 ∨ j = 3 ∨ j = 4 ∨ j = 5 ∨ j = 6 by omega) with r | r | r | r | r | r | r <;> subst r <;> decide)
theorem xp11_2 {b : Nat} {a idx : Nat} (hl : LkF K idx "java/lang/Throwable" "suppressedExceptions" "Ljava/util/List;") (hd : decode (kc K) pc = .ok (.putfield idx, 3)) (hk : hKd h a = 12) (kk : X G c K d mc ms Q bc bs (uFR h 522 a (some b)) (pc + 3) lv st) : X G c K d mc ms Q bc bs h pc lv (.ref b :: .ref a :: st) := x_putf (h' := uFR h 522 a (some b)) clX17 2 (by decide) hl rfl rfl rfl rfl rfl rfl rfl (fun q hq => Eqa.uFR hq) (e4R (by decide) (fj11_2)) hd hk kk
theorem xpn11_2 {a idx : Nat} (hl : LkF K idx "java/lang/Throwable" "suppressedExceptions" "Ljava/util/List;") (hd : decode (kc K) pc = .ok (.putfield idx, 3)) (hk : hKd h a = 12) (kk : X G c K d mc ms Q bc bs (uFR h 522 a none) (pc + 3) lv st) : X G c K d mc ms Q bc bs h pc lv (.null :: .ref a :: st) := x_putf (h' := uFR h 522 a none) clX17 2 (by decide) hl rfl rfl rfl rfl rfl rfl rfl (fun q hq => Eqa.uFR hq) (e4R (by decide) (fj11_2)) hd hk kk
theorem xg11_3 {o : Option Nat} {a idx : Nat} (hl : LkF K idx "java/lang/Throwable" "detailMessage" "Ljava/lang/String;") (hd : decode (kc K) pc = .ok (.getfield idx, 3)) (hk : kO 11 (hKd h a)) (ho : hFR h 523 a = o) (kk : X G c K d mc ms Q bc bs h (pc + 3) lv (va_rf o :: st)) : X G c K d mc ms Q bc bs h pc lv (.ref a :: st) := x_getf clX17 3 (by decide) hl rfl (congrArg va_rf ho) hd hk kk
theorem xh11_3 {b : Nat} {a idx : Nat} (hl : LkF K idx "java/lang/Throwable" "detailMessage" "Ljava/lang/String;") (hd : decode (kc K) pc = .ok (.getfield idx, 3)) (hk : kO 11 (hKd h a)) (ho : hFR h 523 a = some b) (kk : X G c K d mc ms Q bc bs h (pc + 3) lv (.ref b :: st)) : X G c K d mc ms Q bc bs h pc lv (.ref a :: st) := xg11_3 hl hd hk ho kk
theorem fj11_3 : ∀ j, j < 7 → (fid 11 j = 523 ↔ j = 3) := (fun j hj => by rcases (show j = 0 ∨ j = 1 ∨ j = 2 ∨ j = 3 ∨ j = 4 ∨ j = 5 ∨ j = 6 by omega) with r | r | r | r | r | r | r <;> subst r <;> decide)
theorem xp11_3 {b : Nat} {a idx : Nat} (hl : LkF K idx "java/lang/Throwable" "detailMessage" "Ljava/lang/String;") (hd : decode (kc K) pc = .ok (.putfield idx, 3)) (hk : hKd h a = 12) (kk : X G c K d mc ms Q bc bs (uFR h 523 a (some b)) (pc + 3) lv st) : X G c K d mc ms Q bc bs h pc lv (.ref b :: .ref a :: st) := x_putf (h' := uFR h 523 a (some b)) clX17 3 (by decide) hl rfl rfl rfl rfl rfl rfl rfl (fun q hq => Eqa.uFR hq) (e4R (by decide) (fj11_3)) hd hk kk
theorem xpn11_3 {a idx : Nat} (hl : LkF K idx "java/lang/Throwable" "detailMessage" "Ljava/lang/String;") (hd : decode (kc K) pc = .ok (.putfield idx, 3)) (hk : hKd h a = 12) (kk : X G c K d mc ms Q bc bs (uFR h 523 a none) (pc + 3) lv st) : X G c K d mc ms Q bc bs h pc lv (.null :: .ref a :: st) := x_putf (h' := uFR h 523 a none) clX17 3 (by decide) hl rfl rfl rfl rfl rfl rfl rfl (fun q hq => Eqa.uFR hq) (e4R (by decide) (fj11_3)) hd hk kk
theorem xg11_4 {o : Option Nat} {a idx : Nat} (hl : LkF K idx "java/lang/Throwable" "backtrace" "Ljava/lang/Object;") (hd : decode (kc K) pc = .ok (.getfield idx, 3)) (hk : kO 11 (hKd h a)) (ho : hFR h 524 a = o) (kk : X G c K d mc ms Q bc bs h (pc + 3) lv (va_rf o :: st)) : X G c K d mc ms Q bc bs h pc lv (.ref a :: st) := x_getf clX17 4 (by decide) hl rfl (congrArg va_rf ho) hd hk kk
theorem xh11_4 {b : Nat} {a idx : Nat} (hl : LkF K idx "java/lang/Throwable" "backtrace" "Ljava/lang/Object;") (hd : decode (kc K) pc = .ok (.getfield idx, 3)) (hk : kO 11 (hKd h a)) (ho : hFR h 524 a = some b) (kk : X G c K d mc ms Q bc bs h (pc + 3) lv (.ref b :: st)) : X G c K d mc ms Q bc bs h pc lv (.ref a :: st) := xg11_4 hl hd hk ho kk
theorem fj11_4 : ∀ j, j < 7 → (fid 11 j = 524 ↔ j = 4) := (fun j hj => by rcases (show j = 0 ∨ j = 1 ∨ j = 2 ∨ j = 3 ∨ j = 4 ∨ j = 5 ∨ j = 6 by omega) with r | r | r | r | r | r | r <;> subst r <;> decide)
theorem xp11_4 {b : Nat} {a idx : Nat} (hl : LkF K idx "java/lang/Throwable" "backtrace" "Ljava/lang/Object;") (hd : decode (kc K) pc = .ok (.putfield idx, 3)) (hk : hKd h a = 12) (kk : X G c K d mc ms Q bc bs (uFR h 524 a (some b)) (pc + 3) lv st) : X G c K d mc ms Q bc bs h pc lv (.ref b :: .ref a :: st) := x_putf (h' := uFR h 524 a (some b)) clX17 4 (by decide) hl rfl rfl rfl rfl rfl rfl rfl (fun q hq => Eqa.uFR hq) (e4R (by decide) (fj11_4)) hd hk kk
theorem xpn11_4 {a idx : Nat} (hl : LkF K idx "java/lang/Throwable" "backtrace" "Ljava/lang/Object;") (hd : decode (kc K) pc = .ok (.putfield idx, 3)) (hk : hKd h a = 12) (kk : X G c K d mc ms Q bc bs (uFR h 524 a none) (pc + 3) lv st) : X G c K d mc ms Q bc bs h pc lv (.null :: .ref a :: st) := x_putf (h' := uFR h 524 a none) clX17 4 (by decide) hl rfl rfl rfl rfl rfl rfl rfl (fun q hq => Eqa.uFR hq) (e4R (by decide) (fj11_4)) hd hk kk
theorem xg11_5 {a idx : Nat} (hl : LkF K idx "java/lang/Throwable" "depth" "I") (hd : decode (kc K) pc = .ok (.getfield idx, 3)) (hk : kO 11 (hKd h a)) (kk : X G c K d mc ms Q bc bs h (pc + 3) lv (.int (hFI h 27 a) :: st)) : X G c K d mc ms Q bc bs h pc lv (.ref a :: st) := x_getf clX17 5 (by decide) hl rfl rfl hd hk kk
theorem fj11_5 : ∀ j, j < 7 → (fid 11 j = 27 ↔ j = 5) := (fun j hj => by rcases (show j = 0 ∨ j = 1 ∨ j = 2 ∨ j = 3 ∨ j = 4 ∨ j = 5 ∨ j = 6 by omega) with r | r | r | r | r | r | r <;> subst r <;> decide)
theorem xp11_5 {v : Int32} {a idx : Nat} (hl : LkF K idx "java/lang/Throwable" "depth" "I") (hd : decode (kc K) pc = .ok (.putfield idx, 3)) (hk : hKd h a = 12) (kk : X G c K d mc ms Q bc bs (uFI h 27 a v) (pc + 3) lv st) : X G c K d mc ms Q bc bs h pc lv (.int v :: .ref a :: st) := x_putf (h' := uFI h 27 a v) clX17 5 (by decide) hl rfl rfl rfl rfl rfl rfl rfl (fun q hq => Eqa.uFI hq) (e4I (by decide) (fj11_5)) hd hk kk
theorem xg11_6 {a idx : Nat} (hl : LkF K idx "MustardMill$SyntaxException" "position" "I") (hd : decode (kc K) pc = .ok (.getfield idx, 3)) (hk : kO 11 (hKd h a)) (kk : X G c K d mc ms Q bc bs h (pc + 3) lv (.int (hFI h 30 a) :: st)) : X G c K d mc ms Q bc bs h pc lv (.ref a :: st) := x_getf clX17 6 (by decide) hl rfl rfl hd hk kk
theorem fj11_6 : ∀ j, j < 7 → (fid 11 j = 30 ↔ j = 6) := (fun j hj => by rcases (show j = 0 ∨ j = 1 ∨ j = 2 ∨ j = 3 ∨ j = 4 ∨ j = 5 ∨ j = 6 by omega) with r | r | r | r | r | r | r <;> subst r <;> decide)
theorem xp11_6 {v : Int32} {a idx : Nat} (hl : Cond.fieldLink (ky K).cls idx "MustardMill$SyntaxException" "position" "I" ∈ lw_all) (hy : (ky K).cls = "MustardMill$SyntaxException" ∧ (ky K).name = "<init>") (hd : decode (kc K) pc = .ok (.putfield idx, 3)) (hk : hKd h a = 12) (kk : X G c K d mc ms Q bc bs (uFI h 30 a v) (pc + 3) lv st) : X G c K d mc ms Q bc bs h pc lv (.int v :: .ref a :: st) := x_putF (h' := uFI h 30 a v) clX17 6 (by decide) hl rfl hy.2 hy.1.symm rfl rfl rfl rfl rfl (fun q hq => Eqa.uFI hq) (e4I (by decide) (fj11_6)) hd hk kk
theorem xg12_0 {o : Option Nat} {a idx : Nat} (hl : LkF K idx "MustardMillModel" "g" "[I") (hd : decode (kc K) pc = .ok (.getfield idx, 3)) (hk : kO 12 (hKd h a)) (ho : hFR h 525 a = o) (kk : X G c K d mc ms Q bc bs h (pc + 3) lv (va_rf o :: st)) : X G c K d mc ms Q bc bs h pc lv (.ref a :: st) := x_getf clX5 0 (by decide) hl rfl (congrArg va_rf ho) hd hk kk
theorem xh12_0 {b : Nat} {a idx : Nat} (hl : LkF K idx "MustardMillModel" "g" "[I") (hd : decode (kc K) pc = .ok (.getfield idx, 3)) (hk : kO 12 (hKd h a)) (ho : hFR h 525 a = some b) (kk : X G c K d mc ms Q bc bs h (pc + 3) lv (.ref b :: st)) : X G c K d mc ms Q bc bs h pc lv (.ref a :: st) := xg12_0 hl hd hk ho kk
theorem fj12_0 : ∀ j, j < 20 → (fid 12 j = 525 ↔ j = 0) := (fun j hj => by rcases (show j = 0 ∨ j = 1 ∨ j = 2 ∨ j = 3 ∨ j = 4 ∨ j = 5 ∨ j = 6 ∨ j = 7 ∨ j = 8 ∨ j = 9 ∨ j = 10 ∨ j = 11 ∨ j = 12 ∨ j = 13 ∨ j = 14 ∨ j = 15 ∨ j = 16 ∨ j = 17 ∨ j = 18 ∨ j = 19 by omega) with r | r | r | r | r | r | r | r | r | r | r | r | r | r | r | r | r | r | r | r <;> subst r <;> decide)
theorem xp12_0 {b : Nat} {a idx : Nat} (hl : Cond.fieldLink (ky K).cls idx "MustardMillModel" "g" "[I" ∈ lw_all) (hy : (ky K).cls = "MustardMillModel" ∧ (ky K).name = "<init>") (hd : decode (kc K) pc = .ok (.putfield idx, 3)) (hk : hKd h a = 13) (kk : X G c K d mc ms Q bc bs (uFR h 525 a (some b)) (pc + 3) lv st) : X G c K d mc ms Q bc bs h pc lv (.ref b :: .ref a :: st) := x_putF (h' := uFR h 525 a (some b)) clX5 0 (by decide) hl rfl hy.2 hy.1.symm rfl rfl rfl rfl rfl (fun q hq => Eqa.uFR hq) (e4R (by decide) (fj12_0)) hd hk kk
theorem xpn12_0 {a idx : Nat} (hl : Cond.fieldLink (ky K).cls idx "MustardMillModel" "g" "[I" ∈ lw_all) (hy : (ky K).cls = "MustardMillModel" ∧ (ky K).name = "<init>") (hd : decode (kc K) pc = .ok (.putfield idx, 3)) (hk : hKd h a = 13) (kk : X G c K d mc ms Q bc bs (uFR h 525 a none) (pc + 3) lv st) : X G c K d mc ms Q bc bs h pc lv (.null :: .ref a :: st) := x_putF (h' := uFR h 525 a none) clX5 0 (by decide) hl rfl hy.2 hy.1.symm rfl rfl rfl rfl rfl (fun q hq => Eqa.uFR hq) (e4R (by decide) (fj12_0)) hd hk kk
theorem xg12_1 {o : Option Nat} {a idx : Nat} (hl : LkF K idx "MustardMillModel" "kept" "[I") (hd : decode (kc K) pc = .ok (.getfield idx, 3)) (hk : kO 12 (hKd h a)) (ho : hFR h 526 a = o) (kk : X G c K d mc ms Q bc bs h (pc + 3) lv (va_rf o :: st)) : X G c K d mc ms Q bc bs h pc lv (.ref a :: st) := x_getf clX5 1 (by decide) hl rfl (congrArg va_rf ho) hd hk kk
theorem xh12_1 {b : Nat} {a idx : Nat} (hl : LkF K idx "MustardMillModel" "kept" "[I") (hd : decode (kc K) pc = .ok (.getfield idx, 3)) (hk : kO 12 (hKd h a)) (ho : hFR h 526 a = some b) (kk : X G c K d mc ms Q bc bs h (pc + 3) lv (.ref b :: st)) : X G c K d mc ms Q bc bs h pc lv (.ref a :: st) := xg12_1 hl hd hk ho kk
theorem fj12_1 : ∀ j, j < 20 → (fid 12 j = 526 ↔ j = 1) := (fun j hj => by rcases (show j = 0 ∨ j = 1 ∨ j = 2 ∨ j = 3 ∨ j = 4 ∨ j = 5 ∨ j = 6 ∨ j = 7 ∨ j = 8 ∨ j = 9 ∨ j = 10 ∨ j = 11 ∨ j = 12 ∨ j = 13 ∨ j = 14 ∨ j = 15 ∨ j = 16 ∨ j = 17 ∨ j = 18 ∨ j = 19 by omega) with r | r | r | r | r | r | r | r | r | r | r | r | r | r | r | r | r | r | r | r <;> subst r <;> decide)
theorem xp12_1 {b : Nat} {a idx : Nat} (hl : Cond.fieldLink (ky K).cls idx "MustardMillModel" "kept" "[I" ∈ lw_all) (hy : (ky K).cls = "MustardMillModel" ∧ (ky K).name = "<init>") (hd : decode (kc K) pc = .ok (.putfield idx, 3)) (hk : hKd h a = 13) (kk : X G c K d mc ms Q bc bs (uFR h 526 a (some b)) (pc + 3) lv st) : X G c K d mc ms Q bc bs h pc lv (.ref b :: .ref a :: st) := x_putF (h' := uFR h 526 a (some b)) clX5 1 (by decide) hl rfl hy.2 hy.1.symm rfl rfl rfl rfl rfl (fun q hq => Eqa.uFR hq) (e4R (by decide) (fj12_1)) hd hk kk
theorem xpn12_1 {a idx : Nat} (hl : Cond.fieldLink (ky K).cls idx "MustardMillModel" "kept" "[I" ∈ lw_all) (hy : (ky K).cls = "MustardMillModel" ∧ (ky K).name = "<init>") (hd : decode (kc K) pc = .ok (.putfield idx, 3)) (hk : hKd h a = 13) (kk : X G c K d mc ms Q bc bs (uFR h 526 a none) (pc + 3) lv st) : X G c K d mc ms Q bc bs h pc lv (.null :: .ref a :: st) := x_putF (h' := uFR h 526 a none) clX5 1 (by decide) hl rfl hy.2 hy.1.symm rfl rfl rfl rfl rfl (fun q hq => Eqa.uFR hq) (e4R (by decide) (fj12_1)) hd hk kk
theorem xg12_2 {o : Option Nat} {a idx : Nat} (hl : LkF K idx "MustardMillModel" "saved" "[I") (hd : decode (kc K) pc = .ok (.getfield idx, 3)) (hk : kO 12 (hKd h a)) (ho : hFR h 527 a = o) (kk : X G c K d mc ms Q bc bs h (pc + 3) lv (va_rf o :: st)) : X G c K d mc ms Q bc bs h pc lv (.ref a :: st) := x_getf clX5 2 (by decide) hl rfl (congrArg va_rf ho) hd hk kk
theorem xh12_2 {b : Nat} {a idx : Nat} (hl : LkF K idx "MustardMillModel" "saved" "[I") (hd : decode (kc K) pc = .ok (.getfield idx, 3)) (hk : kO 12 (hKd h a)) (ho : hFR h 527 a = some b) (kk : X G c K d mc ms Q bc bs h (pc + 3) lv (.ref b :: st)) : X G c K d mc ms Q bc bs h pc lv (.ref a :: st) := xg12_2 hl hd hk ho kk
theorem fj12_2 : ∀ j, j < 20 → (fid 12 j = 527 ↔ j = 2) := (fun j hj => by rcases (show j = 0 ∨ j = 1 ∨ j = 2 ∨ j = 3 ∨ j = 4 ∨ j = 5 ∨ j = 6 ∨ j = 7 ∨ j = 8 ∨ j = 9 ∨ j = 10 ∨ j = 11 ∨ j = 12 ∨ j = 13 ∨ j = 14 ∨ j = 15 ∨ j = 16 ∨ j = 17 ∨ j = 18 ∨ j = 19 by omega) with r | r | r | r | r | r | r | r | r | r | r | r | r | r | r | r | r | r | r | r <;> subst r <;> decide)
theorem xp12_2 {b : Nat} {a idx : Nat} (hl : Cond.fieldLink (ky K).cls idx "MustardMillModel" "saved" "[I" ∈ lw_all) (hy : (ky K).cls = "MustardMillModel" ∧ (ky K).name = "<init>") (hd : decode (kc K) pc = .ok (.putfield idx, 3)) (hk : hKd h a = 13) (kk : X G c K d mc ms Q bc bs (uFR h 527 a (some b)) (pc + 3) lv st) : X G c K d mc ms Q bc bs h pc lv (.ref b :: .ref a :: st) := x_putF (h' := uFR h 527 a (some b)) clX5 2 (by decide) hl rfl hy.2 hy.1.symm rfl rfl rfl rfl rfl (fun q hq => Eqa.uFR hq) (e4R (by decide) (fj12_2)) hd hk kk
theorem xpn12_2 {a idx : Nat} (hl : Cond.fieldLink (ky K).cls idx "MustardMillModel" "saved" "[I" ∈ lw_all) (hy : (ky K).cls = "MustardMillModel" ∧ (ky K).name = "<init>") (hd : decode (kc K) pc = .ok (.putfield idx, 3)) (hk : hKd h a = 13) (kk : X G c K d mc ms Q bc bs (uFR h 527 a none) (pc + 3) lv st) : X G c K d mc ms Q bc bs h pc lv (.null :: .ref a :: st) := x_putF (h' := uFR h 527 a none) clX5 2 (by decide) hl rfl hy.2 hy.1.symm rfl rfl rfl rfl rfl (fun q hq => Eqa.uFR hq) (e4R (by decide) (fj12_2)) hd hk kk
theorem xg12_3 {o : Option Nat} {a idx : Nat} (hl : LkF K idx "MustardMillModel" "before" "[I") (hd : decode (kc K) pc = .ok (.getfield idx, 3)) (hk : kO 12 (hKd h a)) (ho : hFR h 528 a = o) (kk : X G c K d mc ms Q bc bs h (pc + 3) lv (va_rf o :: st)) : X G c K d mc ms Q bc bs h pc lv (.ref a :: st) := x_getf clX5 3 (by decide) hl rfl (congrArg va_rf ho) hd hk kk
theorem xh12_3 {b : Nat} {a idx : Nat} (hl : LkF K idx "MustardMillModel" "before" "[I") (hd : decode (kc K) pc = .ok (.getfield idx, 3)) (hk : kO 12 (hKd h a)) (ho : hFR h 528 a = some b) (kk : X G c K d mc ms Q bc bs h (pc + 3) lv (.ref b :: st)) : X G c K d mc ms Q bc bs h pc lv (.ref a :: st) := xg12_3 hl hd hk ho kk
theorem fj12_3 : ∀ j, j < 20 → (fid 12 j = 528 ↔ j = 3) := (fun j hj => by rcases (show j = 0 ∨ j = 1 ∨ j = 2 ∨ j = 3 ∨ j = 4 ∨ j = 5 ∨ j = 6 ∨ j = 7 ∨ j = 8 ∨ j = 9 ∨ j = 10 ∨ j = 11 ∨ j = 12 ∨ j = 13 ∨ j = 14 ∨ j = 15 ∨ j = 16 ∨ j = 17 ∨ j = 18 ∨ j = 19 by omega) with r | r | r | r | r | r | r | r | r | r | r | r | r | r | r | r | r | r | r | r <;> subst r <;> decide)
theorem xp12_3 {b : Nat} {a idx : Nat} (hl : Cond.fieldLink (ky K).cls idx "MustardMillModel" "before" "[I" ∈ lw_all) (hy : (ky K).cls = "MustardMillModel" ∧ (ky K).name = "<init>") (hd : decode (kc K) pc = .ok (.putfield idx, 3)) (hk : hKd h a = 13) (kk : X G c K d mc ms Q bc bs (uFR h 528 a (some b)) (pc + 3) lv st) : X G c K d mc ms Q bc bs h pc lv (.ref b :: .ref a :: st) := x_putF (h' := uFR h 528 a (some b)) clX5 3 (by decide) hl rfl hy.2 hy.1.symm rfl rfl rfl rfl rfl (fun q hq => Eqa.uFR hq) (e4R (by decide) (fj12_3)) hd hk kk
theorem xpn12_3 {a idx : Nat} (hl : Cond.fieldLink (ky K).cls idx "MustardMillModel" "before" "[I" ∈ lw_all) (hy : (ky K).cls = "MustardMillModel" ∧ (ky K).name = "<init>") (hd : decode (kc K) pc = .ok (.putfield idx, 3)) (hk : hKd h a = 13) (kk : X G c K d mc ms Q bc bs (uFR h 528 a none) (pc + 3) lv st) : X G c K d mc ms Q bc bs h pc lv (.null :: .ref a :: st) := x_putF (h' := uFR h 528 a none) clX5 3 (by decide) hl rfl hy.2 hy.1.symm rfl rfl rfl rfl rfl (fun q hq => Eqa.uFR hq) (e4R (by decide) (fj12_3)) hd hk kk
theorem xg12_4 {o : Option Nat} {a idx : Nat} (hl : LkF K idx "MustardMillModel" "spare" "[I") (hd : decode (kc K) pc = .ok (.getfield idx, 3)) (hk : kO 12 (hKd h a)) (ho : hFR h 529 a = o) (kk : X G c K d mc ms Q bc bs h (pc + 3) lv (va_rf o :: st)) : X G c K d mc ms Q bc bs h pc lv (.ref a :: st) := x_getf clX5 4 (by decide) hl rfl (congrArg va_rf ho) hd hk kk
theorem xh12_4 {b : Nat} {a idx : Nat} (hl : LkF K idx "MustardMillModel" "spare" "[I") (hd : decode (kc K) pc = .ok (.getfield idx, 3)) (hk : kO 12 (hKd h a)) (ho : hFR h 529 a = some b) (kk : X G c K d mc ms Q bc bs h (pc + 3) lv (.ref b :: st)) : X G c K d mc ms Q bc bs h pc lv (.ref a :: st) := xg12_4 hl hd hk ho kk
theorem fj12_4 : ∀ j, j < 20 → (fid 12 j = 529 ↔ j = 4) := (fun j hj => by rcases (show j = 0 ∨ j = 1 ∨ j = 2 ∨ j = 3 ∨ j = 4 ∨ j = 5 ∨ j = 6 ∨ j = 7 ∨ j = 8 ∨ j = 9 ∨ j = 10 ∨ j = 11 ∨ j = 12 ∨ j = 13 ∨ j = 14 ∨ j = 15 ∨ j = 16 ∨ j = 17 ∨ j = 18 ∨ j = 19 by omega) with r | r | r | r | r | r | r | r | r | r | r | r | r | r | r | r | r | r | r | r <;> subst r <;> decide)
theorem xp12_4 {b : Nat} {a idx : Nat} (hl : Cond.fieldLink (ky K).cls idx "MustardMillModel" "spare" "[I" ∈ lw_all) (hy : (ky K).cls = "MustardMillModel" ∧ (ky K).name = "<init>") (hd : decode (kc K) pc = .ok (.putfield idx, 3)) (hk : hKd h a = 13) (kk : X G c K d mc ms Q bc bs (uFR h 529 a (some b)) (pc + 3) lv st) : X G c K d mc ms Q bc bs h pc lv (.ref b :: .ref a :: st) := x_putF (h' := uFR h 529 a (some b)) clX5 4 (by decide) hl rfl hy.2 hy.1.symm rfl rfl rfl rfl rfl (fun q hq => Eqa.uFR hq) (e4R (by decide) (fj12_4)) hd hk kk
theorem xpn12_4 {a idx : Nat} (hl : Cond.fieldLink (ky K).cls idx "MustardMillModel" "spare" "[I" ∈ lw_all) (hy : (ky K).cls = "MustardMillModel" ∧ (ky K).name = "<init>") (hd : decode (kc K) pc = .ok (.putfield idx, 3)) (hk : hKd h a = 13) (kk : X G c K d mc ms Q bc bs (uFR h 529 a none) (pc + 3) lv st) : X G c K d mc ms Q bc bs h pc lv (.null :: .ref a :: st) := x_putF (h' := uFR h 529 a none) clX5 4 (by decide) hl rfl hy.2 hy.1.symm rfl rfl rfl rfl rfl (fun q hq => Eqa.uFR hq) (e4R (by decide) (fj12_4)) hd hk kk
theorem xg12_5 {a idx : Nat} (hl : LkF K idx "MustardMillModel" "isSaved" "Z") (hd : decode (kc K) pc = .ok (.getfield idx, 3)) (hk : kO 12 (hKd h a)) (kk : X G c K d mc ms Q bc bs h (pc + 3) lv (.int (hFI h 31 a) :: st)) : X G c K d mc ms Q bc bs h pc lv (.ref a :: st) := x_getf clX5 5 (by decide) hl rfl rfl hd hk kk
theorem fj12_5 : ∀ j, j < 20 → (fid 12 j = 31 ↔ j = 5) := (fun j hj => by rcases (show j = 0 ∨ j = 1 ∨ j = 2 ∨ j = 3 ∨ j = 4 ∨ j = 5 ∨ j = 6 ∨ j = 7 ∨ j = 8 ∨ j = 9 ∨ j = 10 ∨ j = 11 ∨ j = 12 ∨ j = 13 ∨ j = 14 ∨ j = 15 ∨ j = 16 ∨ j = 17 ∨ j = 18 ∨ j = 19 by omega) with r | r | r | r | r | r | r | r | r | r | r | r | r | r | r | r | r | r | r | r <;> subst r <;> decide)
theorem xp12_5 {v : Int32} (hv : v = 0 ∨ v = 1) {a idx : Nat} (hl : LkF K idx "MustardMillModel" "isSaved" "Z") (hd : decode (kc K) pc = .ok (.putfield idx, 3)) (hk : hKd h a = 13) (kk : X G c K d mc ms Q bc bs (uFI h 31 a v) (pc + 3) lv st) : X G c K d mc ms Q bc bs h pc lv (.int v :: .ref a :: st) := x_putf (h' := uFI h 31 a v) clX5 5 (by decide) hl rfl rfl rfl (nar_zb hv).1 (nar_zb hv).2 rfl rfl (fun q hq => Eqa.uFI hq) (e4I (by decide) (fj12_5)) hd hk kk
theorem xg12_6 {a idx : Nat} (hl : LkF K idx "MustardMillModel" "changes" "I") (hd : decode (kc K) pc = .ok (.getfield idx, 3)) (hk : kO 12 (hKd h a)) (kk : X G c K d mc ms Q bc bs h (pc + 3) lv (.int (hFI h 32 a) :: st)) : X G c K d mc ms Q bc bs h pc lv (.ref a :: st) := x_getf clX5 6 (by decide) hl rfl rfl hd hk kk
theorem fj12_6 : ∀ j, j < 20 → (fid 12 j = 32 ↔ j = 6) := (fun j hj => by rcases (show j = 0 ∨ j = 1 ∨ j = 2 ∨ j = 3 ∨ j = 4 ∨ j = 5 ∨ j = 6 ∨ j = 7 ∨ j = 8 ∨ j = 9 ∨ j = 10 ∨ j = 11 ∨ j = 12 ∨ j = 13 ∨ j = 14 ∨ j = 15 ∨ j = 16 ∨ j = 17 ∨ j = 18 ∨ j = 19 by omega) with r | r | r | r | r | r | r | r | r | r | r | r | r | r | r | r | r | r | r | r <;> subst r <;> decide)
theorem xp12_6 {v : Int32} {a idx : Nat} (hl : LkF K idx "MustardMillModel" "changes" "I") (hd : decode (kc K) pc = .ok (.putfield idx, 3)) (hk : hKd h a = 13) (kk : X G c K d mc ms Q bc bs (uFI h 32 a v) (pc + 3) lv st) : X G c K d mc ms Q bc bs h pc lv (.int v :: .ref a :: st) := x_putf (h' := uFI h 32 a v) clX5 6 (by decide) hl rfl rfl rfl rfl rfl rfl rfl (fun q hq => Eqa.uFI hq) (e4I (by decide) (fj12_6)) hd hk kk
theorem xg12_7 {a idx : Nat} (hl : LkF K idx "MustardMillModel" "isWithin" "Z") (hd : decode (kc K) pc = .ok (.getfield idx, 3)) (hk : kO 12 (hKd h a)) (kk : X G c K d mc ms Q bc bs h (pc + 3) lv (.int (hFI h 33 a) :: st)) : X G c K d mc ms Q bc bs h pc lv (.ref a :: st) := x_getf clX5 7 (by decide) hl rfl rfl hd hk kk
theorem fj12_7 : ∀ j, j < 20 → (fid 12 j = 33 ↔ j = 7) := (fun j hj => by rcases (show j = 0 ∨ j = 1 ∨ j = 2 ∨ j = 3 ∨ j = 4 ∨ j = 5 ∨ j = 6 ∨ j = 7 ∨ j = 8 ∨ j = 9 ∨ j = 10 ∨ j = 11 ∨ j = 12 ∨ j = 13 ∨ j = 14 ∨ j = 15 ∨ j = 16 ∨ j = 17 ∨ j = 18 ∨ j = 19 by omega) with r | r | r | r | r | r | r | r | r | r | r | r | r | r | r | r | r | r | r | r <;> subst r <;> decide)
theorem xp12_7 {v : Int32} (hv : v = 0 ∨ v = 1) {a idx : Nat} (hl : LkF K idx "MustardMillModel" "isWithin" "Z") (hd : decode (kc K) pc = .ok (.putfield idx, 3)) (hk : hKd h a = 13) (kk : X G c K d mc ms Q bc bs (uFI h 33 a v) (pc + 3) lv st) : X G c K d mc ms Q bc bs h pc lv (.int v :: .ref a :: st) := x_putf (h' := uFI h 33 a v) clX5 7 (by decide) hl rfl rfl rfl (nar_zb hv).1 (nar_zb hv).2 rfl rfl (fun q hq => Eqa.uFI hq) (e4I (by decide) (fj12_7)) hd hk kk
theorem xg12_8 {a idx : Nat} (hl : LkF K idx "MustardMillModel" "code" "I") (hd : decode (kc K) pc = .ok (.getfield idx, 3)) (hk : kO 12 (hKd h a)) (kk : X G c K d mc ms Q bc bs h (pc + 3) lv (.int (hFI h 34 a) :: st)) : X G c K d mc ms Q bc bs h pc lv (.ref a :: st) := x_getf clX5 8 (by decide) hl rfl rfl hd hk kk
theorem fj12_8 : ∀ j, j < 20 → (fid 12 j = 34 ↔ j = 8) := (fun j hj => by rcases (show j = 0 ∨ j = 1 ∨ j = 2 ∨ j = 3 ∨ j = 4 ∨ j = 5 ∨ j = 6 ∨ j = 7 ∨ j = 8 ∨ j = 9 ∨ j = 10 ∨ j = 11 ∨ j = 12 ∨ j = 13 ∨ j = 14 ∨ j = 15 ∨ j = 16 ∨ j = 17 ∨ j = 18 ∨ j = 19 by omega) with r | r | r | r | r | r | r | r | r | r | r | r | r | r | r | r | r | r | r | r <;> subst r <;> decide)
theorem xp12_8 {v : Int32} {a idx : Nat} (hl : LkF K idx "MustardMillModel" "code" "I") (hd : decode (kc K) pc = .ok (.putfield idx, 3)) (hk : hKd h a = 13) (kk : X G c K d mc ms Q bc bs (uFI h 34 a v) (pc + 3) lv st) : X G c K d mc ms Q bc bs h pc lv (.int v :: .ref a :: st) := x_putf (h' := uFI h 34 a v) clX5 8 (by decide) hl rfl rfl rfl rfl rfl rfl rfl (fun q hq => Eqa.uFI hq) (e4I (by decide) (fj12_8)) hd hk kk
theorem xg12_9 {a idx : Nat} (hl : LkF K idx "MustardMillModel" "why" "I") (hd : decode (kc K) pc = .ok (.getfield idx, 3)) (hk : kO 12 (hKd h a)) (kk : X G c K d mc ms Q bc bs h (pc + 3) lv (.int (hFI h 35 a) :: st)) : X G c K d mc ms Q bc bs h pc lv (.ref a :: st) := x_getf clX5 9 (by decide) hl rfl rfl hd hk kk
theorem fj12_9 : ∀ j, j < 20 → (fid 12 j = 35 ↔ j = 9) := (fun j hj => by rcases (show j = 0 ∨ j = 1 ∨ j = 2 ∨ j = 3 ∨ j = 4 ∨ j = 5 ∨ j = 6 ∨ j = 7 ∨ j = 8 ∨ j = 9 ∨ j = 10 ∨ j = 11 ∨ j = 12 ∨ j = 13 ∨ j = 14 ∨ j = 15 ∨ j = 16 ∨ j = 17 ∨ j = 18 ∨ j = 19 by omega) with r | r | r | r | r | r | r | r | r | r | r | r | r | r | r | r | r | r | r | r <;> subst r <;> decide)
theorem xp12_9 {v : Int32} {a idx : Nat} (hl : LkF K idx "MustardMillModel" "why" "I") (hd : decode (kc K) pc = .ok (.putfield idx, 3)) (hk : hKd h a = 13) (kk : X G c K d mc ms Q bc bs (uFI h 35 a v) (pc + 3) lv st) : X G c K d mc ms Q bc bs h pc lv (.int v :: .ref a :: st) := x_putf (h' := uFI h 35 a v) clX5 9 (by decide) hl rfl rfl rfl rfl rfl rfl rfl (fun q hq => Eqa.uFI hq) (e4I (by decide) (fj12_9)) hd hk kk
theorem xg12_10 {a idx : Nat} (hl : LkF K idx "MustardMillModel" "detail" "I") (hd : decode (kc K) pc = .ok (.getfield idx, 3)) (hk : kO 12 (hKd h a)) (kk : X G c K d mc ms Q bc bs h (pc + 3) lv (.int (hFI h 36 a) :: st)) : X G c K d mc ms Q bc bs h pc lv (.ref a :: st) := x_getf clX5 10 (by decide) hl rfl rfl hd hk kk
theorem fj12_10 : ∀ j, j < 20 → (fid 12 j = 36 ↔ j = 10) := (fun j hj => by rcases (show j = 0 ∨ j = 1 ∨ j = 2 ∨ j = 3 ∨ j = 4 ∨ j = 5 ∨ j = 6 ∨ j = 7 ∨ j = 8 ∨ j = 9 ∨ j = 10 ∨ j = 11 ∨ j = 12 ∨ j = 13 ∨ j = 14 ∨ j = 15 ∨ j = 16 ∨ j = 17 ∨ j = 18 ∨ j = 19 by omega) with r | r | r | r | r | r | r | r | r | r | r | r | r | r | r | r | r | r | r | r <;> subst r <;> decide)
theorem xp12_10 {v : Int32} {a idx : Nat} (hl : LkF K idx "MustardMillModel" "detail" "I") (hd : decode (kc K) pc = .ok (.putfield idx, 3)) (hk : hKd h a = 13) (kk : X G c K d mc ms Q bc bs (uFI h 36 a v) (pc + 3) lv st) : X G c K d mc ms Q bc bs h pc lv (.int v :: .ref a :: st) := x_putf (h' := uFI h 36 a v) clX5 10 (by decide) hl rfl rfl rfl rfl rfl rfl rfl (fun q hq => Eqa.uFI hq) (e4I (by decide) (fj12_10)) hd hk kk
theorem xg12_11 {o : Option Nat} {a idx : Nat} (hl : LkF K idx "MustardMillModel" "input" "[I") (hd : decode (kc K) pc = .ok (.getfield idx, 3)) (hk : kO 12 (hKd h a)) (ho : hFR h 530 a = o) (kk : X G c K d mc ms Q bc bs h (pc + 3) lv (va_rf o :: st)) : X G c K d mc ms Q bc bs h pc lv (.ref a :: st) := x_getf clX5 11 (by decide) hl rfl (congrArg va_rf ho) hd hk kk
theorem xh12_11 {b : Nat} {a idx : Nat} (hl : LkF K idx "MustardMillModel" "input" "[I") (hd : decode (kc K) pc = .ok (.getfield idx, 3)) (hk : kO 12 (hKd h a)) (ho : hFR h 530 a = some b) (kk : X G c K d mc ms Q bc bs h (pc + 3) lv (.ref b :: st)) : X G c K d mc ms Q bc bs h pc lv (.ref a :: st) := xg12_11 hl hd hk ho kk
theorem fj12_11 : ∀ j, j < 20 → (fid 12 j = 530 ↔ j = 11) := (fun j hj => by rcases (show j = 0 ∨ j = 1 ∨ j = 2 ∨ j = 3 ∨ j = 4 ∨ j = 5 ∨ j = 6 ∨ j = 7 ∨ j = 8 ∨ j = 9 ∨ j = 10 ∨ j = 11 ∨ j = 12 ∨ j = 13 ∨ j = 14 ∨ j = 15 ∨ j = 16 ∨ j = 17 ∨ j = 18 ∨ j = 19 by omega) with r | r | r | r | r | r | r | r | r | r | r | r | r | r | r | r | r | r | r | r <;> subst r <;> decide)
theorem xp12_11 {b : Nat} {a idx : Nat} (hl : Cond.fieldLink (ky K).cls idx "MustardMillModel" "input" "[I" ∈ lw_all) (hy : (ky K).cls = "MustardMillModel" ∧ (ky K).name = "<init>") (hd : decode (kc K) pc = .ok (.putfield idx, 3)) (hk : hKd h a = 13) (kk : X G c K d mc ms Q bc bs (uFR h 530 a (some b)) (pc + 3) lv st) : X G c K d mc ms Q bc bs h pc lv (.ref b :: .ref a :: st) := x_putF (h' := uFR h 530 a (some b)) clX5 11 (by decide) hl rfl hy.2 hy.1.symm rfl rfl rfl rfl rfl (fun q hq => Eqa.uFR hq) (e4R (by decide) (fj12_11)) hd hk kk
theorem xpn12_11 {a idx : Nat} (hl : Cond.fieldLink (ky K).cls idx "MustardMillModel" "input" "[I" ∈ lw_all) (hy : (ky K).cls = "MustardMillModel" ∧ (ky K).name = "<init>") (hd : decode (kc K) pc = .ok (.putfield idx, 3)) (hk : hKd h a = 13) (kk : X G c K d mc ms Q bc bs (uFR h 530 a none) (pc + 3) lv st) : X G c K d mc ms Q bc bs h pc lv (.null :: .ref a :: st) := x_putF (h' := uFR h 530 a none) clX5 11 (by decide) hl rfl hy.2 hy.1.symm rfl rfl rfl rfl rfl (fun q hq => Eqa.uFR hq) (e4R (by decide) (fj12_11)) hd hk kk
theorem xg12_12 {a idx : Nat} (hl : LkF K idx "MustardMillModel" "length" "I") (hd : decode (kc K) pc = .ok (.getfield idx, 3)) (hk : kO 12 (hKd h a)) (kk : X G c K d mc ms Q bc bs h (pc + 3) lv (.int (hFI h 37 a) :: st)) : X G c K d mc ms Q bc bs h pc lv (.ref a :: st) := x_getf clX5 12 (by decide) hl rfl rfl hd hk kk
theorem fj12_12 : ∀ j, j < 20 → (fid 12 j = 37 ↔ j = 12) := (fun j hj => by rcases (show j = 0 ∨ j = 1 ∨ j = 2 ∨ j = 3 ∨ j = 4 ∨ j = 5 ∨ j = 6 ∨ j = 7 ∨ j = 8 ∨ j = 9 ∨ j = 10 ∨ j = 11 ∨ j = 12 ∨ j = 13 ∨ j = 14 ∨ j = 15 ∨ j = 16 ∨ j = 17 ∨ j = 18 ∨ j = 19 by omega) with r | r | r | r | r | r | r | r | r | r | r | r | r | r | r | r | r | r | r | r <;> subst r <;> decide)
theorem xp12_12 {v : Int32} {a idx : Nat} (hl : LkF K idx "MustardMillModel" "length" "I") (hd : decode (kc K) pc = .ok (.putfield idx, 3)) (hk : hKd h a = 13) (kk : X G c K d mc ms Q bc bs (uFI h 37 a v) (pc + 3) lv st) : X G c K d mc ms Q bc bs h pc lv (.int v :: .ref a :: st) := x_putf (h' := uFI h 37 a v) clX5 12 (by decide) hl rfl rfl rfl rfl rfl rfl rfl (fun q hq => Eqa.uFI hq) (e4I (by decide) (fj12_12)) hd hk kk
theorem xg12_13 {a idx : Nat} (hl : LkF K idx "MustardMillModel" "error" "I") (hd : decode (kc K) pc = .ok (.getfield idx, 3)) (hk : kO 12 (hKd h a)) (kk : X G c K d mc ms Q bc bs h (pc + 3) lv (.int (hFI h 38 a) :: st)) : X G c K d mc ms Q bc bs h pc lv (.ref a :: st) := x_getf clX5 13 (by decide) hl rfl rfl hd hk kk
theorem fj12_13 : ∀ j, j < 20 → (fid 12 j = 38 ↔ j = 13) := (fun j hj => by rcases (show j = 0 ∨ j = 1 ∨ j = 2 ∨ j = 3 ∨ j = 4 ∨ j = 5 ∨ j = 6 ∨ j = 7 ∨ j = 8 ∨ j = 9 ∨ j = 10 ∨ j = 11 ∨ j = 12 ∨ j = 13 ∨ j = 14 ∨ j = 15 ∨ j = 16 ∨ j = 17 ∨ j = 18 ∨ j = 19 by omega) with r | r | r | r | r | r | r | r | r | r | r | r | r | r | r | r | r | r | r | r <;> subst r <;> decide)
theorem xp12_13 {v : Int32} {a idx : Nat} (hl : LkF K idx "MustardMillModel" "error" "I") (hd : decode (kc K) pc = .ok (.putfield idx, 3)) (hk : hKd h a = 13) (kk : X G c K d mc ms Q bc bs (uFI h 38 a v) (pc + 3) lv st) : X G c K d mc ms Q bc bs h pc lv (.int v :: .ref a :: st) := x_putf (h' := uFI h 38 a v) clX5 13 (by decide) hl rfl rfl rfl rfl rfl rfl rfl (fun q hq => Eqa.uFI hq) (e4I (by decide) (fj12_13)) hd hk kk
theorem xg12_14 {a idx : Nat} (hl : LkF K idx "MustardMillModel" "item" "I") (hd : decode (kc K) pc = .ok (.getfield idx, 3)) (hk : kO 12 (hKd h a)) (kk : X G c K d mc ms Q bc bs h (pc + 3) lv (.int (hFI h 39 a) :: st)) : X G c K d mc ms Q bc bs h pc lv (.ref a :: st) := x_getf clX5 14 (by decide) hl rfl rfl hd hk kk
theorem fj12_14 : ∀ j, j < 20 → (fid 12 j = 39 ↔ j = 14) := (fun j hj => by rcases (show j = 0 ∨ j = 1 ∨ j = 2 ∨ j = 3 ∨ j = 4 ∨ j = 5 ∨ j = 6 ∨ j = 7 ∨ j = 8 ∨ j = 9 ∨ j = 10 ∨ j = 11 ∨ j = 12 ∨ j = 13 ∨ j = 14 ∨ j = 15 ∨ j = 16 ∨ j = 17 ∨ j = 18 ∨ j = 19 by omega) with r | r | r | r | r | r | r | r | r | r | r | r | r | r | r | r | r | r | r | r <;> subst r <;> decide)
theorem xp12_14 {v : Int32} {a idx : Nat} (hl : LkF K idx "MustardMillModel" "item" "I") (hd : decode (kc K) pc = .ok (.putfield idx, 3)) (hk : hKd h a = 13) (kk : X G c K d mc ms Q bc bs (uFI h 39 a v) (pc + 3) lv st) : X G c K d mc ms Q bc bs h pc lv (.int v :: .ref a :: st) := x_putf (h' := uFI h 39 a v) clX5 14 (by decide) hl rfl rfl rfl rfl rfl rfl rfl (fun q hq => Eqa.uFI hq) (e4I (by decide) (fj12_14)) hd hk kk
theorem xg12_15 {o : Option Nat} {a idx : Nat} (hl : LkF K idx "MustardMillModel" "signs" "[C") (hd : decode (kc K) pc = .ok (.getfield idx, 3)) (hk : kO 12 (hKd h a)) (ho : hFR h 531 a = o) (kk : X G c K d mc ms Q bc bs h (pc + 3) lv (va_rf o :: st)) : X G c K d mc ms Q bc bs h pc lv (.ref a :: st) := x_getf clX5 15 (by decide) hl rfl (congrArg va_rf ho) hd hk kk
theorem xh12_15 {b : Nat} {a idx : Nat} (hl : LkF K idx "MustardMillModel" "signs" "[C") (hd : decode (kc K) pc = .ok (.getfield idx, 3)) (hk : kO 12 (hKd h a)) (ho : hFR h 531 a = some b) (kk : X G c K d mc ms Q bc bs h (pc + 3) lv (.ref b :: st)) : X G c K d mc ms Q bc bs h pc lv (.ref a :: st) := xg12_15 hl hd hk ho kk
theorem fj12_15 : ∀ j, j < 20 → (fid 12 j = 531 ↔ j = 15) := (fun j hj => by rcases (show j = 0 ∨ j = 1 ∨ j = 2 ∨ j = 3 ∨ j = 4 ∨ j = 5 ∨ j = 6 ∨ j = 7 ∨ j = 8 ∨ j = 9 ∨ j = 10 ∨ j = 11 ∨ j = 12 ∨ j = 13 ∨ j = 14 ∨ j = 15 ∨ j = 16 ∨ j = 17 ∨ j = 18 ∨ j = 19 by omega) with r | r | r | r | r | r | r | r | r | r | r | r | r | r | r | r | r | r | r | r <;> subst r <;> decide)
theorem xp12_15 {b : Nat} {a idx : Nat} (hl : Cond.fieldLink (ky K).cls idx "MustardMillModel" "signs" "[C" ∈ lw_all) (hy : (ky K).cls = "MustardMillModel" ∧ (ky K).name = "<init>") (hd : decode (kc K) pc = .ok (.putfield idx, 3)) (hk : hKd h a = 13) (kk : X G c K d mc ms Q bc bs (uFR h 531 a (some b)) (pc + 3) lv st) : X G c K d mc ms Q bc bs h pc lv (.ref b :: .ref a :: st) := x_putF (h' := uFR h 531 a (some b)) clX5 15 (by decide) hl rfl hy.2 hy.1.symm rfl rfl rfl rfl rfl (fun q hq => Eqa.uFR hq) (e4R (by decide) (fj12_15)) hd hk kk
theorem xpn12_15 {a idx : Nat} (hl : Cond.fieldLink (ky K).cls idx "MustardMillModel" "signs" "[C" ∈ lw_all) (hy : (ky K).cls = "MustardMillModel" ∧ (ky K).name = "<init>") (hd : decode (kc K) pc = .ok (.putfield idx, 3)) (hk : hKd h a = 13) (kk : X G c K d mc ms Q bc bs (uFR h 531 a none) (pc + 3) lv st) : X G c K d mc ms Q bc bs h pc lv (.null :: .ref a :: st) := x_putF (h' := uFR h 531 a none) clX5 15 (by decide) hl rfl hy.2 hy.1.symm rfl rfl rfl rfl rfl (fun q hq => Eqa.uFR hq) (e4R (by decide) (fj12_15)) hd hk kk
theorem xg12_16 {a idx : Nat} (hl : LkF K idx "MustardMillModel" "signMany" "I") (hd : decode (kc K) pc = .ok (.getfield idx, 3)) (hk : kO 12 (hKd h a)) (kk : X G c K d mc ms Q bc bs h (pc + 3) lv (.int (hFI h 40 a) :: st)) : X G c K d mc ms Q bc bs h pc lv (.ref a :: st) := x_getf clX5 16 (by decide) hl rfl rfl hd hk kk
theorem fj12_16 : ∀ j, j < 20 → (fid 12 j = 40 ↔ j = 16) := (fun j hj => by rcases (show j = 0 ∨ j = 1 ∨ j = 2 ∨ j = 3 ∨ j = 4 ∨ j = 5 ∨ j = 6 ∨ j = 7 ∨ j = 8 ∨ j = 9 ∨ j = 10 ∨ j = 11 ∨ j = 12 ∨ j = 13 ∨ j = 14 ∨ j = 15 ∨ j = 16 ∨ j = 17 ∨ j = 18 ∨ j = 19 by omega) with r | r | r | r | r | r | r | r | r | r | r | r | r | r | r | r | r | r | r | r <;> subst r <;> decide)
theorem xp12_16 {v : Int32} {a idx : Nat} (hl : LkF K idx "MustardMillModel" "signMany" "I") (hd : decode (kc K) pc = .ok (.putfield idx, 3)) (hk : hKd h a = 13) (kk : X G c K d mc ms Q bc bs (uFI h 40 a v) (pc + 3) lv st) : X G c K d mc ms Q bc bs h pc lv (.int v :: .ref a :: st) := x_putf (h' := uFI h 40 a v) clX5 16 (by decide) hl rfl rfl rfl rfl rfl rfl rfl (fun q hq => Eqa.uFI hq) (e4I (by decide) (fj12_16)) hd hk kk
theorem xg12_17 {a idx : Nat} (hl : LkF K idx "MustardMillModel" "at" "I") (hd : decode (kc K) pc = .ok (.getfield idx, 3)) (hk : kO 12 (hKd h a)) (kk : X G c K d mc ms Q bc bs h (pc + 3) lv (.int (hFI h 41 a) :: st)) : X G c K d mc ms Q bc bs h pc lv (.ref a :: st) := x_getf clX5 17 (by decide) hl rfl rfl hd hk kk
theorem fj12_17 : ∀ j, j < 20 → (fid 12 j = 41 ↔ j = 17) := (fun j hj => by rcases (show j = 0 ∨ j = 1 ∨ j = 2 ∨ j = 3 ∨ j = 4 ∨ j = 5 ∨ j = 6 ∨ j = 7 ∨ j = 8 ∨ j = 9 ∨ j = 10 ∨ j = 11 ∨ j = 12 ∨ j = 13 ∨ j = 14 ∨ j = 15 ∨ j = 16 ∨ j = 17 ∨ j = 18 ∨ j = 19 by omega) with r | r | r | r | r | r | r | r | r | r | r | r | r | r | r | r | r | r | r | r <;> subst r <;> decide)
theorem xp12_17 {v : Int32} {a idx : Nat} (hl : LkF K idx "MustardMillModel" "at" "I") (hd : decode (kc K) pc = .ok (.putfield idx, 3)) (hk : hKd h a = 13) (kk : X G c K d mc ms Q bc bs (uFI h 41 a v) (pc + 3) lv st) : X G c K d mc ms Q bc bs h pc lv (.int v :: .ref a :: st) := x_putf (h' := uFI h 41 a v) clX5 17 (by decide) hl rfl rfl rfl rfl rfl rfl rfl (fun q hq => Eqa.uFI hq) (e4I (by decide) (fj12_17)) hd hk kk
theorem xg12_18 {o : Option Nat} {a idx : Nat} (hl : LkF K idx "MustardMillModel" "told" "[I") (hd : decode (kc K) pc = .ok (.getfield idx, 3)) (hk : kO 12 (hKd h a)) (ho : hFR h 532 a = o) (kk : X G c K d mc ms Q bc bs h (pc + 3) lv (va_rf o :: st)) : X G c K d mc ms Q bc bs h pc lv (.ref a :: st) := x_getf clX5 18 (by decide) hl rfl (congrArg va_rf ho) hd hk kk
theorem xh12_18 {b : Nat} {a idx : Nat} (hl : LkF K idx "MustardMillModel" "told" "[I") (hd : decode (kc K) pc = .ok (.getfield idx, 3)) (hk : kO 12 (hKd h a)) (ho : hFR h 532 a = some b) (kk : X G c K d mc ms Q bc bs h (pc + 3) lv (.ref b :: st)) : X G c K d mc ms Q bc bs h pc lv (.ref a :: st) := xg12_18 hl hd hk ho kk
theorem fj12_18 : ∀ j, j < 20 → (fid 12 j = 532 ↔ j = 18) := (fun j hj => by rcases (show j = 0 ∨ j = 1 ∨ j = 2 ∨ j = 3 ∨ j = 4 ∨ j = 5 ∨ j = 6 ∨ j = 7 ∨ j = 8 ∨ j = 9 ∨ j = 10 ∨ j = 11 ∨ j = 12 ∨ j = 13 ∨ j = 14 ∨ j = 15 ∨ j = 16 ∨ j = 17 ∨ j = 18 ∨ j = 19 by omega) with r | r | r | r | r | r | r | r | r | r | r | r | r | r | r | r | r | r | r | r <;> subst r <;> decide)
theorem xp12_18 {b : Nat} {a idx : Nat} (hl : Cond.fieldLink (ky K).cls idx "MustardMillModel" "told" "[I" ∈ lw_all) (hy : (ky K).cls = "MustardMillModel" ∧ (ky K).name = "<init>") (hd : decode (kc K) pc = .ok (.putfield idx, 3)) (hk : hKd h a = 13) (kk : X G c K d mc ms Q bc bs (uFR h 532 a (some b)) (pc + 3) lv st) : X G c K d mc ms Q bc bs h pc lv (.ref b :: .ref a :: st) := x_putF (h' := uFR h 532 a (some b)) clX5 18 (by decide) hl rfl hy.2 hy.1.symm rfl rfl rfl rfl rfl (fun q hq => Eqa.uFR hq) (e4R (by decide) (fj12_18)) hd hk kk
theorem xpn12_18 {a idx : Nat} (hl : Cond.fieldLink (ky K).cls idx "MustardMillModel" "told" "[I" ∈ lw_all) (hy : (ky K).cls = "MustardMillModel" ∧ (ky K).name = "<init>") (hd : decode (kc K) pc = .ok (.putfield idx, 3)) (hk : hKd h a = 13) (kk : X G c K d mc ms Q bc bs (uFR h 532 a none) (pc + 3) lv st) : X G c K d mc ms Q bc bs h pc lv (.null :: .ref a :: st) := x_putF (h' := uFR h 532 a none) clX5 18 (by decide) hl rfl hy.2 hy.1.symm rfl rfl rfl rfl rfl (fun q hq => Eqa.uFR hq) (e4R (by decide) (fj12_18)) hd hk kk
theorem xg12_19 {a idx : Nat} (hl : LkF K idx "MustardMillModel" "toldMany" "I") (hd : decode (kc K) pc = .ok (.getfield idx, 3)) (hk : kO 12 (hKd h a)) (kk : X G c K d mc ms Q bc bs h (pc + 3) lv (.int (hFI h 42 a) :: st)) : X G c K d mc ms Q bc bs h pc lv (.ref a :: st) := x_getf clX5 19 (by decide) hl rfl rfl hd hk kk
theorem fj12_19 : ∀ j, j < 20 → (fid 12 j = 42 ↔ j = 19) := (fun j hj => by rcases (show j = 0 ∨ j = 1 ∨ j = 2 ∨ j = 3 ∨ j = 4 ∨ j = 5 ∨ j = 6 ∨ j = 7 ∨ j = 8 ∨ j = 9 ∨ j = 10 ∨ j = 11 ∨ j = 12 ∨ j = 13 ∨ j = 14 ∨ j = 15 ∨ j = 16 ∨ j = 17 ∨ j = 18 ∨ j = 19 by omega) with r | r | r | r | r | r | r | r | r | r | r | r | r | r | r | r | r | r | r | r <;> subst r <;> decide)
theorem xp12_19 {v : Int32} {a idx : Nat} (hl : LkF K idx "MustardMillModel" "toldMany" "I") (hd : decode (kc K) pc = .ok (.putfield idx, 3)) (hk : hKd h a = 13) (kk : X G c K d mc ms Q bc bs (uFI h 42 a v) (pc + 3) lv st) : X G c K d mc ms Q bc bs h pc lv (.int v :: .ref a :: st) := x_putf (h' := uFI h 42 a v) clX5 19 (by decide) hl rfl rfl rfl rfl rfl rfl rfl (fun q hq => Eqa.uFI hq) (e4I (by decide) (fj12_19)) hd hk kk
theorem xg13_0 {a idx : Nat} (hl : LkF K idx "java/util/AbstractList" "modCount" "I") (hd : decode (kc K) pc = .ok (.getfield idx, 3)) (hk : kO 13 (hKd h a)) (kk : X G c K d mc ms Q bc bs h (pc + 3) lv (.int (hFI h 43 a) :: st)) : X G c K d mc ms Q bc bs h pc lv (.ref a :: st) := x_getf clJ2 0 (by decide) hl rfl rfl hd hk kk
theorem fj13_0 : ∀ j, j < 3 → (fid 13 j = 43 ↔ j = 0) := (fun j hj => by rcases (show j = 0 ∨ j = 1 ∨ j = 2 by omega) with r | r | r <;> subst r <;> decide)
theorem xp13_0 {v : Int32} {a idx : Nat} (hl : LkF K idx "java/util/AbstractList" "modCount" "I") (hd : decode (kc K) pc = .ok (.putfield idx, 3)) (hk : hKd h a = 14) (kk : X G c K d mc ms Q bc bs (uFI h 43 a v) (pc + 3) lv st) : X G c K d mc ms Q bc bs h pc lv (.int v :: .ref a :: st) := x_putf (h' := uFI h 43 a v) clJ2 0 (by decide) hl rfl rfl rfl rfl rfl rfl rfl (fun q hq => Eqa.uFI hq) (e4I (by decide) (fj13_0)) hd hk kk
theorem xg13_1 {o : Option Nat} {a idx : Nat} (hl : LkF K idx "java/util/ArrayList" "elementData" "[Ljava/lang/Object;") (hd : decode (kc K) pc = .ok (.getfield idx, 3)) (hk : kO 13 (hKd h a)) (ho : hFR h 533 a = o) (kk : X G c K d mc ms Q bc bs h (pc + 3) lv (va_rf o :: st)) : X G c K d mc ms Q bc bs h pc lv (.ref a :: st) := x_getf clJ2 1 (by decide) hl rfl (congrArg va_rf ho) hd hk kk
theorem xh13_1 {b : Nat} {a idx : Nat} (hl : LkF K idx "java/util/ArrayList" "elementData" "[Ljava/lang/Object;") (hd : decode (kc K) pc = .ok (.getfield idx, 3)) (hk : kO 13 (hKd h a)) (ho : hFR h 533 a = some b) (kk : X G c K d mc ms Q bc bs h (pc + 3) lv (.ref b :: st)) : X G c K d mc ms Q bc bs h pc lv (.ref a :: st) := xg13_1 hl hd hk ho kk
theorem fj13_1 : ∀ j, j < 3 → (fid 13 j = 533 ↔ j = 1) := (fun j hj => by rcases (show j = 0 ∨ j = 1 ∨ j = 2 by omega) with r | r | r <;> subst r <;> decide)
theorem xp13_1 {b : Nat} {a idx : Nat} (hl : LkF K idx "java/util/ArrayList" "elementData" "[Ljava/lang/Object;") (hd : decode (kc K) pc = .ok (.putfield idx, 3)) (hk : hKd h a = 14) (kk : X G c K d mc ms Q bc bs (uFR h 533 a (some b)) (pc + 3) lv st) : X G c K d mc ms Q bc bs h pc lv (.ref b :: .ref a :: st) := x_putf (h' := uFR h 533 a (some b)) clJ2 1 (by decide) hl rfl rfl rfl rfl rfl rfl rfl (fun q hq => Eqa.uFR hq) (e4R (by decide) (fj13_1)) hd hk kk
theorem xpn13_1 {a idx : Nat} (hl : LkF K idx "java/util/ArrayList" "elementData" "[Ljava/lang/Object;") (hd : decode (kc K) pc = .ok (.putfield idx, 3)) (hk : hKd h a = 14) (kk : X G c K d mc ms Q bc bs (uFR h 533 a none) (pc + 3) lv st) : X G c K d mc ms Q bc bs h pc lv (.null :: .ref a :: st) := x_putf (h' := uFR h 533 a none) clJ2 1 (by decide) hl rfl rfl rfl rfl rfl rfl rfl (fun q hq => Eqa.uFR hq) (e4R (by decide) (fj13_1)) hd hk kk
theorem xg13_2 {a idx : Nat} (hl : LkF K idx "java/util/ArrayList" "size" "I") (hd : decode (kc K) pc = .ok (.getfield idx, 3)) (hk : kO 13 (hKd h a)) (kk : X G c K d mc ms Q bc bs h (pc + 3) lv (.int (hFI h 44 a) :: st)) : X G c K d mc ms Q bc bs h pc lv (.ref a :: st) := x_getf clJ2 2 (by decide) hl rfl rfl hd hk kk
theorem fj13_2 : ∀ j, j < 3 → (fid 13 j = 44 ↔ j = 2) := (fun j hj => by rcases (show j = 0 ∨ j = 1 ∨ j = 2 by omega) with r | r | r <;> subst r <;> decide)
theorem xp13_2 {v : Int32} {a idx : Nat} (hl : LkF K idx "java/util/ArrayList" "size" "I") (hd : decode (kc K) pc = .ok (.putfield idx, 3)) (hk : hKd h a = 14) (kk : X G c K d mc ms Q bc bs (uFI h 44 a v) (pc + 3) lv st) : X G c K d mc ms Q bc bs h pc lv (.int v :: .ref a :: st) := x_putf (h' := uFI h 44 a v) clJ2 2 (by decide) hl rfl rfl rfl rfl rfl rfl rfl (fun q hq => Eqa.uFI hq) (e4I (by decide) (fj13_2)) hd hk kk
theorem xg14_0 {a idx : Nat} (hl : LkF K idx "java/util/ArrayList$Itr" "cursor" "I") (hd : decode (kc K) pc = .ok (.getfield idx, 3)) (hk : kO 14 (hKd h a)) (kk : X G c K d mc ms Q bc bs h (pc + 3) lv (.int (hFI h 45 a) :: st)) : X G c K d mc ms Q bc bs h pc lv (.ref a :: st) := x_getf clJ12 0 (by decide) hl rfl rfl hd hk kk
theorem fj14_0 : ∀ j, j < 4 → (fid 14 j = 45 ↔ j = 0) := (fun j hj => by rcases (show j = 0 ∨ j = 1 ∨ j = 2 ∨ j = 3 by omega) with r | r | r | r <;> subst r <;> decide)
theorem xp14_0 {v : Int32} {a idx : Nat} (hl : LkF K idx "java/util/ArrayList$Itr" "cursor" "I") (hd : decode (kc K) pc = .ok (.putfield idx, 3)) (hk : hKd h a = 15) (kk : X G c K d mc ms Q bc bs (uFI h 45 a v) (pc + 3) lv st) : X G c K d mc ms Q bc bs h pc lv (.int v :: .ref a :: st) := x_putf (h' := uFI h 45 a v) clJ12 0 (by decide) hl rfl rfl rfl rfl rfl rfl rfl (fun q hq => Eqa.uFI hq) (e4I (by decide) (fj14_0)) hd hk kk
theorem xg14_1 {a idx : Nat} (hl : LkF K idx "java/util/ArrayList$Itr" "lastRet" "I") (hd : decode (kc K) pc = .ok (.getfield idx, 3)) (hk : kO 14 (hKd h a)) (kk : X G c K d mc ms Q bc bs h (pc + 3) lv (.int (hFI h 46 a) :: st)) : X G c K d mc ms Q bc bs h pc lv (.ref a :: st) := x_getf clJ12 1 (by decide) hl rfl rfl hd hk kk
theorem fj14_1 : ∀ j, j < 4 → (fid 14 j = 46 ↔ j = 1) := (fun j hj => by rcases (show j = 0 ∨ j = 1 ∨ j = 2 ∨ j = 3 by omega) with r | r | r | r <;> subst r <;> decide)
theorem xp14_1 {v : Int32} {a idx : Nat} (hl : LkF K idx "java/util/ArrayList$Itr" "lastRet" "I") (hd : decode (kc K) pc = .ok (.putfield idx, 3)) (hk : hKd h a = 15) (kk : X G c K d mc ms Q bc bs (uFI h 46 a v) (pc + 3) lv st) : X G c K d mc ms Q bc bs h pc lv (.int v :: .ref a :: st) := x_putf (h' := uFI h 46 a v) clJ12 1 (by decide) hl rfl rfl rfl rfl rfl rfl rfl (fun q hq => Eqa.uFI hq) (e4I (by decide) (fj14_1)) hd hk kk
theorem xg14_2 {a idx : Nat} (hl : LkF K idx "java/util/ArrayList$Itr" "expectedModCount" "I") (hd : decode (kc K) pc = .ok (.getfield idx, 3)) (hk : kO 14 (hKd h a)) (kk : X G c K d mc ms Q bc bs h (pc + 3) lv (.int (hFI h 47 a) :: st)) : X G c K d mc ms Q bc bs h pc lv (.ref a :: st) := x_getf clJ12 2 (by decide) hl rfl rfl hd hk kk
theorem fj14_2 : ∀ j, j < 4 → (fid 14 j = 47 ↔ j = 2) := (fun j hj => by rcases (show j = 0 ∨ j = 1 ∨ j = 2 ∨ j = 3 by omega) with r | r | r | r <;> subst r <;> decide)
theorem xp14_2 {v : Int32} {a idx : Nat} (hl : LkF K idx "java/util/ArrayList$Itr" "expectedModCount" "I") (hd : decode (kc K) pc = .ok (.putfield idx, 3)) (hk : hKd h a = 15) (kk : X G c K d mc ms Q bc bs (uFI h 47 a v) (pc + 3) lv st) : X G c K d mc ms Q bc bs h pc lv (.int v :: .ref a :: st) := x_putf (h' := uFI h 47 a v) clJ12 2 (by decide) hl rfl rfl rfl rfl rfl rfl rfl (fun q hq => Eqa.uFI hq) (e4I (by decide) (fj14_2)) hd hk kk
theorem xg14_3 {o : Option Nat} {a idx : Nat} (hl : LkF K idx "java/util/ArrayList$Itr" "this$0" "Ljava/util/ArrayList;") (hd : decode (kc K) pc = .ok (.getfield idx, 3)) (hk : kO 14 (hKd h a)) (ho : hFR h 534 a = o) (kk : X G c K d mc ms Q bc bs h (pc + 3) lv (va_rf o :: st)) : X G c K d mc ms Q bc bs h pc lv (.ref a :: st) := x_getf clJ12 3 (by decide) hl rfl (congrArg va_rf ho) hd hk kk
theorem xh14_3 {b : Nat} {a idx : Nat} (hl : LkF K idx "java/util/ArrayList$Itr" "this$0" "Ljava/util/ArrayList;") (hd : decode (kc K) pc = .ok (.getfield idx, 3)) (hk : kO 14 (hKd h a)) (ho : hFR h 534 a = some b) (kk : X G c K d mc ms Q bc bs h (pc + 3) lv (.ref b :: st)) : X G c K d mc ms Q bc bs h pc lv (.ref a :: st) := xg14_3 hl hd hk ho kk
theorem fj14_3 : ∀ j, j < 4 → (fid 14 j = 534 ↔ j = 3) := (fun j hj => by rcases (show j = 0 ∨ j = 1 ∨ j = 2 ∨ j = 3 by omega) with r | r | r | r <;> subst r <;> decide)
theorem xp14_3 {b : Nat} {a idx : Nat} (hl : Cond.fieldLink (ky K).cls idx "java/util/ArrayList$Itr" "this$0" "Ljava/util/ArrayList;" ∈ lw_all) (hy : (ky K).cls = "java/util/ArrayList$Itr" ∧ (ky K).name = "<init>") (hd : decode (kc K) pc = .ok (.putfield idx, 3)) (hk : hKd h a = 15) (kk : X G c K d mc ms Q bc bs (uFR h 534 a (some b)) (pc + 3) lv st) : X G c K d mc ms Q bc bs h pc lv (.ref b :: .ref a :: st) := x_putF (h' := uFR h 534 a (some b)) clJ12 3 (by decide) hl rfl hy.2 hy.1.symm rfl rfl rfl rfl rfl (fun q hq => Eqa.uFR hq) (e4R (by decide) (fj14_3)) hd hk kk
theorem xpn14_3 {a idx : Nat} (hl : Cond.fieldLink (ky K).cls idx "java/util/ArrayList$Itr" "this$0" "Ljava/util/ArrayList;" ∈ lw_all) (hy : (ky K).cls = "java/util/ArrayList$Itr" ∧ (ky K).name = "<init>") (hd : decode (kc K) pc = .ok (.putfield idx, 3)) (hk : hKd h a = 15) (kk : X G c K d mc ms Q bc bs (uFR h 534 a none) (pc + 3) lv st) : X G c K d mc ms Q bc bs h pc lv (.null :: .ref a :: st) := x_putF (h' := uFR h 534 a none) clJ12 3 (by decide) hl rfl hy.2 hy.1.symm rfl rfl rfl rfl rfl (fun q hq => Eqa.uFR hq) (e4R (by decide) (fj14_3)) hd hk kk
theorem xg15_0 {o : Option Nat} {a idx : Nat} (hl : LkF K idx "java/util/ArrayDeque" "elements" "[Ljava/lang/Object;") (hd : decode (kc K) pc = .ok (.getfield idx, 3)) (hk : kO 15 (hKd h a)) (ho : hFR h 535 a = o) (kk : X G c K d mc ms Q bc bs h (pc + 3) lv (va_rf o :: st)) : X G c K d mc ms Q bc bs h pc lv (.ref a :: st) := x_getf clJ3 0 (by decide) hl rfl (congrArg va_rf ho) hd hk kk
theorem xh15_0 {b : Nat} {a idx : Nat} (hl : LkF K idx "java/util/ArrayDeque" "elements" "[Ljava/lang/Object;") (hd : decode (kc K) pc = .ok (.getfield idx, 3)) (hk : kO 15 (hKd h a)) (ho : hFR h 535 a = some b) (kk : X G c K d mc ms Q bc bs h (pc + 3) lv (.ref b :: st)) : X G c K d mc ms Q bc bs h pc lv (.ref a :: st) := xg15_0 hl hd hk ho kk
theorem fj15_0 : ∀ j, j < 3 → (fid 15 j = 535 ↔ j = 0) := (fun j hj => by rcases (show j = 0 ∨ j = 1 ∨ j = 2 by omega) with r | r | r <;> subst r <;> decide)
theorem xp15_0 {b : Nat} {a idx : Nat} (hl : LkF K idx "java/util/ArrayDeque" "elements" "[Ljava/lang/Object;") (hd : decode (kc K) pc = .ok (.putfield idx, 3)) (hk : hKd h a = 16) (kk : X G c K d mc ms Q bc bs (uFR h 535 a (some b)) (pc + 3) lv st) : X G c K d mc ms Q bc bs h pc lv (.ref b :: .ref a :: st) := x_putf (h' := uFR h 535 a (some b)) clJ3 0 (by decide) hl rfl rfl rfl rfl rfl rfl rfl (fun q hq => Eqa.uFR hq) (e4R (by decide) (fj15_0)) hd hk kk
theorem xpn15_0 {a idx : Nat} (hl : LkF K idx "java/util/ArrayDeque" "elements" "[Ljava/lang/Object;") (hd : decode (kc K) pc = .ok (.putfield idx, 3)) (hk : hKd h a = 16) (kk : X G c K d mc ms Q bc bs (uFR h 535 a none) (pc + 3) lv st) : X G c K d mc ms Q bc bs h pc lv (.null :: .ref a :: st) := x_putf (h' := uFR h 535 a none) clJ3 0 (by decide) hl rfl rfl rfl rfl rfl rfl rfl (fun q hq => Eqa.uFR hq) (e4R (by decide) (fj15_0)) hd hk kk
theorem xg15_1 {a idx : Nat} (hl : LkF K idx "java/util/ArrayDeque" "head" "I") (hd : decode (kc K) pc = .ok (.getfield idx, 3)) (hk : kO 15 (hKd h a)) (kk : X G c K d mc ms Q bc bs h (pc + 3) lv (.int (hFI h 48 a) :: st)) : X G c K d mc ms Q bc bs h pc lv (.ref a :: st) := x_getf clJ3 1 (by decide) hl rfl rfl hd hk kk
theorem fj15_1 : ∀ j, j < 3 → (fid 15 j = 48 ↔ j = 1) := (fun j hj => by rcases (show j = 0 ∨ j = 1 ∨ j = 2 by omega) with r | r | r <;> subst r <;> decide)
theorem xp15_1 {v : Int32} {a idx : Nat} (hl : LkF K idx "java/util/ArrayDeque" "head" "I") (hd : decode (kc K) pc = .ok (.putfield idx, 3)) (hk : hKd h a = 16) (kk : X G c K d mc ms Q bc bs (uFI h 48 a v) (pc + 3) lv st) : X G c K d mc ms Q bc bs h pc lv (.int v :: .ref a :: st) := x_putf (h' := uFI h 48 a v) clJ3 1 (by decide) hl rfl rfl rfl rfl rfl rfl rfl (fun q hq => Eqa.uFI hq) (e4I (by decide) (fj15_1)) hd hk kk
theorem xg15_2 {a idx : Nat} (hl : LkF K idx "java/util/ArrayDeque" "tail" "I") (hd : decode (kc K) pc = .ok (.getfield idx, 3)) (hk : kO 15 (hKd h a)) (kk : X G c K d mc ms Q bc bs h (pc + 3) lv (.int (hFI h 49 a) :: st)) : X G c K d mc ms Q bc bs h pc lv (.ref a :: st) := x_getf clJ3 2 (by decide) hl rfl rfl hd hk kk
theorem fj15_2 : ∀ j, j < 3 → (fid 15 j = 49 ↔ j = 2) := (fun j hj => by rcases (show j = 0 ∨ j = 1 ∨ j = 2 by omega) with r | r | r <;> subst r <;> decide)
theorem xp15_2 {v : Int32} {a idx : Nat} (hl : LkF K idx "java/util/ArrayDeque" "tail" "I") (hd : decode (kc K) pc = .ok (.putfield idx, 3)) (hk : hKd h a = 16) (kk : X G c K d mc ms Q bc bs (uFI h 49 a v) (pc + 3) lv st) : X G c K d mc ms Q bc bs h pc lv (.int v :: .ref a :: st) := x_putf (h' := uFI h 49 a v) clJ3 2 (by decide) hl rfl rfl rfl rfl rfl rfl rfl (fun q hq => Eqa.uFI hq) (e4I (by decide) (fj15_2)) hd hk kk
theorem xg16_0 {o : Option Nat} {a idx : Nat} (hl : LkF K idx "java/lang/AbstractStringBuilder" "value" "[B") (hd : decode (kc K) pc = .ok (.getfield idx, 3)) (hk : kO 16 (hKd h a)) (ho : hFR h 536 a = o) (kk : X G c K d mc ms Q bc bs h (pc + 3) lv (va_rf o :: st)) : X G c K d mc ms Q bc bs h pc lv (.ref a :: st) := x_getf clJ5 0 (by decide) hl rfl (congrArg va_rf ho) hd hk kk
theorem xh16_0 {b : Nat} {a idx : Nat} (hl : LkF K idx "java/lang/AbstractStringBuilder" "value" "[B") (hd : decode (kc K) pc = .ok (.getfield idx, 3)) (hk : kO 16 (hKd h a)) (ho : hFR h 536 a = some b) (kk : X G c K d mc ms Q bc bs h (pc + 3) lv (.ref b :: st)) : X G c K d mc ms Q bc bs h pc lv (.ref a :: st) := xg16_0 hl hd hk ho kk
theorem fj16_0 : ∀ j, j < 4 → (fid 16 j = 536 ↔ j = 0) := (fun j hj => by rcases (show j = 0 ∨ j = 1 ∨ j = 2 ∨ j = 3 by omega) with r | r | r | r <;> subst r <;> decide)
theorem xp16_0 {b : Nat} {a idx : Nat} (hl : LkF K idx "java/lang/AbstractStringBuilder" "value" "[B") (hd : decode (kc K) pc = .ok (.putfield idx, 3)) (hk : hKd h a = 17) (kk : X G c K d mc ms Q bc bs (uFR h 536 a (some b)) (pc + 3) lv st) : X G c K d mc ms Q bc bs h pc lv (.ref b :: .ref a :: st) := x_putf (h' := uFR h 536 a (some b)) clJ5 0 (by decide) hl rfl rfl rfl rfl rfl rfl rfl (fun q hq => Eqa.uFR hq) (e4R (by decide) (fj16_0)) hd hk kk
theorem xpn16_0 {a idx : Nat} (hl : LkF K idx "java/lang/AbstractStringBuilder" "value" "[B") (hd : decode (kc K) pc = .ok (.putfield idx, 3)) (hk : hKd h a = 17) (kk : X G c K d mc ms Q bc bs (uFR h 536 a none) (pc + 3) lv st) : X G c K d mc ms Q bc bs h pc lv (.null :: .ref a :: st) := x_putf (h' := uFR h 536 a none) clJ5 0 (by decide) hl rfl rfl rfl rfl rfl rfl rfl (fun q hq => Eqa.uFR hq) (e4R (by decide) (fj16_0)) hd hk kk
theorem xg16_1 {a idx : Nat} (hl : LkF K idx "java/lang/AbstractStringBuilder" "coder" "B") (hd : decode (kc K) pc = .ok (.getfield idx, 3)) (hk : kO 16 (hKd h a)) (kk : X G c K d mc ms Q bc bs h (pc + 3) lv (.int (hFI h 50 a) :: st)) : X G c K d mc ms Q bc bs h pc lv (.ref a :: st) := x_getf clJ5 1 (by decide) hl rfl rfl hd hk kk
theorem fj16_1 : ∀ j, j < 4 → (fid 16 j = 50 ↔ j = 1) := (fun j hj => by rcases (show j = 0 ∨ j = 1 ∨ j = 2 ∨ j = 3 by omega) with r | r | r | r <;> subst r <;> decide)
theorem xp16_1 {v : Int32} (hv : narrow .byte (.int v) = .int v ∧ fits .byte (.int v) = true) {a idx : Nat} (hl : LkF K idx "java/lang/AbstractStringBuilder" "coder" "B") (hd : decode (kc K) pc = .ok (.putfield idx, 3)) (hk : hKd h a = 17) (kk : X G c K d mc ms Q bc bs (uFI h 50 a v) (pc + 3) lv st) : X G c K d mc ms Q bc bs h pc lv (.int v :: .ref a :: st) := x_putf (h' := uFI h 50 a v) clJ5 1 (by decide) hl rfl rfl rfl hv.1 hv.2 rfl rfl (fun q hq => Eqa.uFI hq) (e4I (by decide) (fj16_1)) hd hk kk
theorem xg16_2 {a idx : Nat} (hl : LkF K idx "java/lang/AbstractStringBuilder" "maybeLatin1" "Z") (hd : decode (kc K) pc = .ok (.getfield idx, 3)) (hk : kO 16 (hKd h a)) (kk : X G c K d mc ms Q bc bs h (pc + 3) lv (.int (hFI h 51 a) :: st)) : X G c K d mc ms Q bc bs h pc lv (.ref a :: st) := x_getf clJ5 2 (by decide) hl rfl rfl hd hk kk
theorem fj16_2 : ∀ j, j < 4 → (fid 16 j = 51 ↔ j = 2) := (fun j hj => by rcases (show j = 0 ∨ j = 1 ∨ j = 2 ∨ j = 3 by omega) with r | r | r | r <;> subst r <;> decide)
theorem xp16_2 {v : Int32} (hv : v = 0 ∨ v = 1) {a idx : Nat} (hl : LkF K idx "java/lang/AbstractStringBuilder" "maybeLatin1" "Z") (hd : decode (kc K) pc = .ok (.putfield idx, 3)) (hk : hKd h a = 17) (kk : X G c K d mc ms Q bc bs (uFI h 51 a v) (pc + 3) lv st) : X G c K d mc ms Q bc bs h pc lv (.int v :: .ref a :: st) := x_putf (h' := uFI h 51 a v) clJ5 2 (by decide) hl rfl rfl rfl (nar_zb hv).1 (nar_zb hv).2 rfl rfl (fun q hq => Eqa.uFI hq) (e4I (by decide) (fj16_2)) hd hk kk
theorem xg16_3 {a idx : Nat} (hl : LkF K idx "java/lang/AbstractStringBuilder" "count" "I") (hd : decode (kc K) pc = .ok (.getfield idx, 3)) (hk : kO 16 (hKd h a)) (kk : X G c K d mc ms Q bc bs h (pc + 3) lv (.int (hFI h 52 a) :: st)) : X G c K d mc ms Q bc bs h pc lv (.ref a :: st) := x_getf clJ5 3 (by decide) hl rfl rfl hd hk kk
theorem fj16_3 : ∀ j, j < 4 → (fid 16 j = 52 ↔ j = 3) := (fun j hj => by rcases (show j = 0 ∨ j = 1 ∨ j = 2 ∨ j = 3 by omega) with r | r | r | r <;> subst r <;> decide)
theorem xp16_3 {v : Int32} {a idx : Nat} (hl : LkF K idx "java/lang/AbstractStringBuilder" "count" "I") (hd : decode (kc K) pc = .ok (.putfield idx, 3)) (hk : hKd h a = 17) (kk : X G c K d mc ms Q bc bs (uFI h 52 a v) (pc + 3) lv st) : X G c K d mc ms Q bc bs h pc lv (.int v :: .ref a :: st) := x_putf (h' := uFI h 52 a v) clJ5 3 (by decide) hl rfl rfl rfl rfl rfl rfl rfl (fun q hq => Eqa.uFI hq) (e4I (by decide) (fj16_3)) hd hk kk
theorem xg17_0 {o : Option Nat} {a idx : Nat} (hl : LkF K idx "java/lang/String" "value" "[B") (hd : decode (kc K) pc = .ok (.getfield idx, 3)) (hk : kO 17 (hKd h a)) (ho : hFR h 537 a = o) (kk : X G c K d mc ms Q bc bs h (pc + 3) lv (va_rf o :: st)) : X G c K d mc ms Q bc bs h pc lv (.ref a :: st) := x_getf clJ6 0 (by decide) hl rfl (congrArg va_rf ho) hd hk kk
theorem xh17_0 {b : Nat} {a idx : Nat} (hl : LkF K idx "java/lang/String" "value" "[B") (hd : decode (kc K) pc = .ok (.getfield idx, 3)) (hk : kO 17 (hKd h a)) (ho : hFR h 537 a = some b) (kk : X G c K d mc ms Q bc bs h (pc + 3) lv (.ref b :: st)) : X G c K d mc ms Q bc bs h pc lv (.ref a :: st) := xg17_0 hl hd hk ho kk
theorem fj17_0 : ∀ j, j < 4 → (fid 17 j = 537 ↔ j = 0) := (fun j hj => by rcases (show j = 0 ∨ j = 1 ∨ j = 2 ∨ j = 3 by omega) with r | r | r | r <;> subst r <;> decide)
theorem xp17_0 {b : Nat} {a idx : Nat} (hl : Cond.fieldLink (ky K).cls idx "java/lang/String" "value" "[B" ∈ lw_all) (hy : (ky K).cls = "java/lang/String" ∧ (ky K).name = "<init>") (hd : decode (kc K) pc = .ok (.putfield idx, 3)) (hk : hKd h a = 18) (kk : X G c K d mc ms Q bc bs (uFR h 537 a (some b)) (pc + 3) lv st) : X G c K d mc ms Q bc bs h pc lv (.ref b :: .ref a :: st) := x_putF (h' := uFR h 537 a (some b)) clJ6 0 (by decide) hl rfl hy.2 hy.1.symm rfl rfl rfl rfl rfl (fun q hq => Eqa.uFR hq) (e4R (by decide) (fj17_0)) hd hk kk
theorem xpn17_0 {a idx : Nat} (hl : Cond.fieldLink (ky K).cls idx "java/lang/String" "value" "[B" ∈ lw_all) (hy : (ky K).cls = "java/lang/String" ∧ (ky K).name = "<init>") (hd : decode (kc K) pc = .ok (.putfield idx, 3)) (hk : hKd h a = 18) (kk : X G c K d mc ms Q bc bs (uFR h 537 a none) (pc + 3) lv st) : X G c K d mc ms Q bc bs h pc lv (.null :: .ref a :: st) := x_putF (h' := uFR h 537 a none) clJ6 0 (by decide) hl rfl hy.2 hy.1.symm rfl rfl rfl rfl rfl (fun q hq => Eqa.uFR hq) (e4R (by decide) (fj17_0)) hd hk kk
theorem xg17_1 {a idx : Nat} (hl : LkF K idx "java/lang/String" "coder" "B") (hd : decode (kc K) pc = .ok (.getfield idx, 3)) (hk : kO 17 (hKd h a)) (kk : X G c K d mc ms Q bc bs h (pc + 3) lv (.int (hFI h 53 a) :: st)) : X G c K d mc ms Q bc bs h pc lv (.ref a :: st) := x_getf clJ6 1 (by decide) hl rfl rfl hd hk kk
theorem fj17_1 : ∀ j, j < 4 → (fid 17 j = 53 ↔ j = 1) := (fun j hj => by rcases (show j = 0 ∨ j = 1 ∨ j = 2 ∨ j = 3 by omega) with r | r | r | r <;> subst r <;> decide)
theorem xp17_1 {v : Int32} (hv : narrow .byte (.int v) = .int v ∧ fits .byte (.int v) = true) {a idx : Nat} (hl : Cond.fieldLink (ky K).cls idx "java/lang/String" "coder" "B" ∈ lw_all) (hy : (ky K).cls = "java/lang/String" ∧ (ky K).name = "<init>") (hd : decode (kc K) pc = .ok (.putfield idx, 3)) (hk : hKd h a = 18) (kk : X G c K d mc ms Q bc bs (uFI h 53 a v) (pc + 3) lv st) : X G c K d mc ms Q bc bs h pc lv (.int v :: .ref a :: st) := x_putF (h' := uFI h 53 a v) clJ6 1 (by decide) hl rfl hy.2 hy.1.symm rfl hv.1 hv.2 rfl rfl (fun q hq => Eqa.uFI hq) (e4I (by decide) (fj17_1)) hd hk kk
theorem xg17_2 {a idx : Nat} (hl : LkF K idx "java/lang/String" "hash" "I") (hd : decode (kc K) pc = .ok (.getfield idx, 3)) (hk : kO 17 (hKd h a)) (kk : X G c K d mc ms Q bc bs h (pc + 3) lv (.int (hFI h 54 a) :: st)) : X G c K d mc ms Q bc bs h pc lv (.ref a :: st) := x_getf clJ6 2 (by decide) hl rfl rfl hd hk kk
theorem fj17_2 : ∀ j, j < 4 → (fid 17 j = 54 ↔ j = 2) := (fun j hj => by rcases (show j = 0 ∨ j = 1 ∨ j = 2 ∨ j = 3 by omega) with r | r | r | r <;> subst r <;> decide)
theorem xp17_2 {v : Int32} {a idx : Nat} (hl : LkF K idx "java/lang/String" "hash" "I") (hd : decode (kc K) pc = .ok (.putfield idx, 3)) (hk : hKd h a = 18) (kk : X G c K d mc ms Q bc bs (uFI h 54 a v) (pc + 3) lv st) : X G c K d mc ms Q bc bs h pc lv (.int v :: .ref a :: st) := x_putf (h' := uFI h 54 a v) clJ6 2 (by decide) hl rfl rfl rfl rfl rfl rfl rfl (fun q hq => Eqa.uFI hq) (e4I (by decide) (fj17_2)) hd hk kk
theorem xg17_3 {a idx : Nat} (hl : LkF K idx "java/lang/String" "hashIsZero" "Z") (hd : decode (kc K) pc = .ok (.getfield idx, 3)) (hk : kO 17 (hKd h a)) (kk : X G c K d mc ms Q bc bs h (pc + 3) lv (.int (hFI h 55 a) :: st)) : X G c K d mc ms Q bc bs h pc lv (.ref a :: st) := x_getf clJ6 3 (by decide) hl rfl rfl hd hk kk
theorem fj17_3 : ∀ j, j < 4 → (fid 17 j = 55 ↔ j = 3) := (fun j hj => by rcases (show j = 0 ∨ j = 1 ∨ j = 2 ∨ j = 3 by omega) with r | r | r | r <;> subst r <;> decide)
theorem xp17_3 {v : Int32} (hv : v = 0 ∨ v = 1) {a idx : Nat} (hl : LkF K idx "java/lang/String" "hashIsZero" "Z") (hd : decode (kc K) pc = .ok (.putfield idx, 3)) (hk : hKd h a = 18) (kk : X G c K d mc ms Q bc bs (uFI h 55 a v) (pc + 3) lv st) : X G c K d mc ms Q bc bs h pc lv (.int v :: .ref a :: st) := x_putf (h' := uFI h 55 a v) clJ6 3 (by decide) hl rfl rfl rfl (nar_zb hv).1 (nar_zb hv).2 rfl rfl (fun q hq => Eqa.uFI hq) (e4I (by decide) (fj17_3)) hd hk kk
end XF
abbrev kJ0_init : KX := (yJ0_init, cJ0_init, 1, none, [])
theorem okJ0_init : COk kJ0_init 0 := ⟨by decide, by decide, by decide +kernel, q176, q68, by decide⟩
abbrev kJ10_init : KX := (yJ10_init, cJ10_init, 2, none, [])
theorem okJ10_init : COk kJ10_init 1 := ⟨by decide, by decide, by decide +kernel, q615, q79, by decide⟩
abbrev kJ10_init_2 : KX := (yJ10_init_2, cJ10_init_2, 1, none, [])
theorem okJ10_init_2 : COk kJ10_init_2 0 := ⟨by decide, by decide, by decide +kernel, q705, q79, by decide⟩
abbrev kJ11_init : KX := (yJ11_init, cJ11_init, 1, none, [])
theorem okJ11_init : COk kJ11_init 0 := ⟨by decide, by decide, by decide +kernel, q702, q80, by decide⟩
abbrev kJ11_init_2 : KX := (yJ11_init_2, cJ11_init_2, 2, none, [])
theorem okJ11_init_2 : COk kJ11_init_2 1 := ⟨by decide, by decide, by decide +kernel, q1537, q80, by decide⟩
abbrev kJ12_checkForComodification : KX := (yJ12_checkForComodification, cJ12_checkForComodification, 1, none, [])
theorem okJ12_checkForComodification : COk kJ12_checkForComodification 0 := ⟨by decide, by decide, by decide +kernel, q793, q81, by decide⟩
abbrev kJ12_hasNext : KX := (yJ12_hasNext, cJ12_hasNext, 1, some FieldType.boolean, [])
theorem okJ12_hasNext : COk kJ12_hasNext 0 := ⟨by decide, by decide, by decide +kernel, q754, q81, by decide⟩
abbrev kJ12_init : KX := (yJ12_init, cJ12_init, 2, none, [])
theorem okJ12_init : COk kJ12_init 1 := ⟨by decide, by decide, by decide +kernel, q724, q81, by decide⟩
abbrev kJ12_next : KX := (yJ12_next, cJ12_next, 3, some (FieldType.object "java/lang/Object"), [])
theorem okJ12_next : COk kJ12_next 0 := ⟨by decide, by decide, by decide +kernel, q789, q81, by decide⟩
abbrev kJ13_init : KX := (yJ13_init, cJ13_init, 1, none, [])
theorem okJ13_init : COk kJ13_init 0 := ⟨by decide, by decide, by decide +kernel, q775, q82, by decide⟩
abbrev kJ14_hashCode : KX := (yJ14_hashCode, cJ14_hashCode, 6, some FieldType.int, [])
theorem okJ14_hashCode : COk kJ14_hashCode 4 := ⟨by decide, by decide, by decide +kernel, q951, q83, by decide⟩
abbrev kJ14_hashCode_2 : KX := (yJ14_hashCode_2, cJ14_hashCode_2, 6, some FieldType.int, [])
theorem okJ14_hashCode_2 : COk kJ14_hashCode_2 4 := ⟨by decide, by decide, by decide +kernel, q954, q83, by decide⟩
abbrev kJ14_hashCode_3 : KX := (yJ14_hashCode_3, cJ14_hashCode_3, 6, some FieldType.int, [])
theorem okJ14_hashCode_3 : COk kJ14_hashCode_3 4 := ⟨by decide, by decide, by decide +kernel, q958, q83, by decide⟩
abbrev kJ14_hashCode_4 : KX := (yJ14_hashCode_4, cJ14_hashCode_4, 6, some FieldType.int, [])
theorem okJ14_hashCode_4 : COk kJ14_hashCode_4 4 := ⟨by decide, by decide, by decide +kernel, q962, q83, by decide⟩
abbrev kJ14_hugeLength : KX := (yJ14_hugeLength, cJ14_hugeLength, 3, some FieldType.int, [])
theorem okJ14_hugeLength : COk kJ14_hugeLength 2 := ⟨by decide, by decide, by decide +kernel, q364, q83, by decide⟩
abbrev kJ14_newLength : KX := (yJ14_newLength, cJ14_newLength, 4, some FieldType.int, [])
theorem okJ14_newLength : COk kJ14_newLength 3 := ⟨by decide, by decide, by decide +kernel, q357, q83, by decide⟩
abbrev kJ14_signedHashCode : KX := (yJ14_signedHashCode, cJ14_signedHashCode, 6, some FieldType.int, [])
theorem okJ14_signedHashCode : COk kJ14_signedHashCode 4 := ⟨by decide, by decide, by decide +kernel, q931, q83, by decide⟩
abbrev kJ14_utf16hashCode : KX := (yJ14_utf16hashCode, cJ14_utf16hashCode, 6, some FieldType.int, [])
theorem okJ14_utf16hashCode : COk kJ14_utf16hashCode 4 := ⟨by decide, by decide, by decide +kernel, q934, q83, by decide⟩
abbrev kJ14_vectorizedHashCode : KX := (yJ14_vectorizedHashCode, cJ14_vectorizedHashCode, 5, some FieldType.int, [])
theorem okJ14_vectorizedHashCode : COk kJ14_vectorizedHashCode 5 := ⟨by decide, by decide, by decide +kernel, q927, q83, by decide⟩
abbrev kJ15_max : KX := (yJ15_max, cJ15_max, 2, some FieldType.int, [])
theorem okJ15_max : COk kJ15_max 2 := ⟨by decide, by decide, by decide +kernel, q360, q84, by decide⟩
abbrev kJ15_min : KX := (yJ15_min, cJ15_min, 2, some FieldType.int, [])
theorem okJ15_min : COk kJ15_min 2 := ⟨by decide, by decide, by decide +kernel, q376, q84, by decide⟩
abbrev kJ16_checkLength : KX := (yJ16_checkLength, cJ16_checkLength, 2, none, [])
theorem okJ16_checkLength : COk kJ16_checkLength 2 := ⟨by decide, by decide, by decide +kernel, q519, q85, by decide⟩
abbrev kJ16_copyOf : KX := (yJ16_copyOf, cJ16_copyOf, 3, some (FieldType.array FieldType.byte), [])
theorem okJ16_copyOf : COk kJ16_copyOf 2 := ⟨by decide, by decide, by decide +kernel, q368, q85, by decide⟩
abbrev kJ16_copyOfRange : KX := (yJ16_copyOfRange, cJ16_copyOfRange, 3, some (FieldType.array FieldType.byte), [])
theorem okJ16_copyOfRange : COk kJ16_copyOfRange 3 := ⟨by decide, by decide, by decide +kernel, q513, q85, by decide⟩
abbrev kJ16_copyOfRangeByte : KX := (yJ16_copyOfRangeByte, cJ16_copyOfRangeByte, 5, some (FieldType.array FieldType.byte), [])
theorem okJ16_copyOfRangeByte : COk kJ16_copyOfRangeByte 3 := ⟨by decide, by decide, by decide +kernel, q516, q85, by decide⟩
abbrev kJ16_copyOf_2 : KX := (yJ16_copyOf_2, cJ16_copyOf_2, 2, some (FieldType.array (FieldType.object "java/lang/Object")), [])
theorem okJ16_copyOf_2 : COk kJ16_copyOf_2 2 := ⟨by decide, by decide, by decide +kernel, q835, q85, by decide⟩
abbrev kJ16_copyOf_3 : KX := (yJ16_copyOf_3, cJ16_copyOf_3, 4, some (FieldType.array (FieldType.object "java/lang/Object")), [])
theorem okJ16_copyOf_3 : COk kJ16_copyOf_3 3 := ⟨by decide, by decide, by decide +kernel, q870, q85, by decide⟩
abbrev kJ17_canEncode : KX := (yJ17_canEncode, cJ17_canEncode, 1, some FieldType.boolean, [])
theorem okJ17_canEncode : COk kJ17_canEncode 1 := ⟨by decide, by decide, by decide +kernel, q461, q88, by decide⟩
abbrev kJ17_charAt : KX := (yJ17_charAt, cJ17_charAt, 2, some FieldType.char, [])
theorem okJ17_charAt : COk kJ17_charAt 2 := ⟨by decide, by decide, by decide +kernel, q435, q88, by decide⟩
abbrev kJ17_equals : KX := (yJ17_equals, cJ17_equals, 3, some FieldType.boolean, [])
theorem okJ17_equals : COk kJ17_equals 2 := ⟨by decide, by decide, by decide +kernel, q983, q88, by decide⟩
abbrev kJ17_hashCode : KX := (yJ17_hashCode, cJ17_hashCode, 1, some FieldType.int, [])
theorem okJ17_hashCode : COk kJ17_hashCode 1 := ⟨by decide, by decide, by decide +kernel, q924, q88, by decide⟩
abbrev kJ17_inflate : KX := (yJ17_inflate, cJ17_inflate, 5, none, [])
theorem okJ17_inflate : COk kJ17_inflate 5 := ⟨by decide, by decide, by decide +kernel, q468, q88, by decide⟩
abbrev kJ18_init : KX := (yJ18_init, cJ18_init, 2, none, [])
theorem okJ18_init : COk kJ18_init 1 := ⟨by decide, by decide, by decide +kernel, q612, q89, by decide⟩
abbrev kJ18_init_2 : KX := (yJ18_init_2, cJ18_init_2, 1, none, [])
theorem okJ18_init_2 : COk kJ18_init_2 0 := ⟨by decide, by decide, by decide +kernel, q1034, q89, by decide⟩
abbrev kJ19_checkFromIndexSize : KX := (yJ19_checkFromIndexSize, cJ19_checkFromIndexSize, 4, some FieldType.int, [])
theorem okJ19_checkFromIndexSize : COk kJ19_checkFromIndexSize 4 := ⟨by decide, by decide, by decide +kernel, q480, q90, by decide⟩
abbrev kJ19_checkFromToIndex : KX := (yJ19_checkFromToIndex, cJ19_checkFromToIndex, 4, some FieldType.int, [])
theorem okJ19_checkFromToIndex : COk kJ19_checkFromToIndex 4 := ⟨by decide, by decide, by decide +kernel, q408, q90, by decide⟩
abbrev kJ19_checkIndex : KX := (yJ19_checkIndex, cJ19_checkIndex, 3, some FieldType.int, [])
theorem okJ19_checkIndex : COk kJ19_checkIndex 3 := ⟨by decide, by decide, by decide +kernel, q441, q90, by decide⟩
abbrev kJ1_init : KX := (yJ1_init, cJ1_init, 1, none, [])
theorem okJ1_init : COk kJ1_init 0 := ⟨by decide, by decide, by decide +kernel, q173, q69, by decide⟩
abbrev kJ20_getChars : KX := (yJ20_getChars, cJ20_getChars, 7, some FieldType.int, [])
theorem okJ20_getChars : COk kJ20_getChars 3 := ⟨by decide, by decide, by decide +kernel, q387, q92, by decide⟩
abbrev kJ20_stringSize : KX := (yJ20_stringSize, cJ20_stringSize, 4, some FieldType.int, [])
theorem okJ20_stringSize : COk kJ20_stringSize 1 := ⟨by decide, by decide, by decide +kernel, q346, q92, by decide⟩
abbrev kJ21_init : KX := (yJ21_init, cJ21_init, 1, none, [])
theorem okJ21_init : COk kJ21_init 0 := ⟨by decide, by decide, by decide +kernel, q1020, q93, by decide⟩
abbrev kJ21_init_2 : KX := (yJ21_init_2, cJ21_init_2, 2, none, [])
theorem okJ21_init_2 : COk kJ21_init_2 1 := ⟨by decide, by decide, by decide +kernel, q1551, q93, by decide⟩
abbrev kJ22_checkIndex : KX := (yJ22_checkIndex, cJ22_checkIndex, 2, some FieldType.int, [])
theorem okJ22_checkIndex : COk kJ22_checkIndex 2 := ⟨by decide, by decide, by decide +kernel, q1149, q98, by decide⟩
abbrev kJ23_hasNext : KX := (yJ23_hasNext, cJ23_hasNext, 1, some FieldType.boolean, [])
theorem okJ23_hasNext : COk kJ23_hasNext 0 := ⟨by decide, by decide, by decide +kernel, q748, q102, by decide⟩
abbrev kJ23_init : KX := (yJ23_init, cJ23_init, 2, none, [])
theorem okJ23_init : COk kJ23_init 1 := ⟨by decide, by decide, by decide +kernel, q1358, q102, by decide⟩
abbrev kJ23_next : KX := (yJ23_next, cJ23_next, 3, some (FieldType.object "java/lang/Object"), [])
theorem okJ23_next : COk kJ23_next 0 := ⟨by decide, by decide, by decide +kernel, q763, q102, by decide⟩
abbrev kJ24_init : KX := (yJ24_init, cJ24_init, 2, none, [])
theorem okJ24_init : COk kJ24_init 1 := ⟨by decide, by decide, by decide +kernel, q1462, q104, by decide⟩
abbrev kJ25_init : KX := (yJ25_init, cJ25_init, 1, none, [])
theorem okJ25_init : COk kJ25_init 0 := ⟨by decide, by decide, by decide +kernel, q1497, q105, by decide⟩
abbrev kJ26_init : KX := (yJ26_init, cJ26_init, 2, none, [])
theorem okJ26_init : COk kJ26_init 1 := ⟨by decide, by decide, by decide +kernel, q1548, q106, by decide⟩
abbrev kJ27_init : KX := (yJ27_init, cJ27_init, 2, none, [])
theorem okJ27_init : COk kJ27_init 1 := ⟨by decide, by decide, by decide +kernel, q1851, q108, by decide⟩
abbrev kJ27_init_2 : KX := (yJ27_init_2, cJ27_init_2, 1, none, [])
theorem okJ27_init_2 : COk kJ27_init_2 0 := ⟨by decide, by decide, by decide +kernel, q1872, q108, by decide⟩
abbrev kJ28_init : KX := (yJ28_init, cJ28_init, 1, none, [])
theorem okJ28_init : COk kJ28_init 0 := ⟨by decide, by decide, by decide +kernel, q118, q2516, by decide⟩
abbrev kJ29_getUTF16Char : KX := (yJ29_getUTF16Char, cJ29_getUTF16Char, 3, some FieldType.char, [])
abbrev kJ2_add : KX := (yJ2_add, cJ2_add, 2, some FieldType.boolean, [])
theorem okJ2_add : COk kJ2_add 1 := ⟨by decide, by decide, by decide +kernel, q819, q70, by decide⟩
abbrev kJ2_add_2 : KX := (yJ2_add_2, cJ2_add_2, 4, none, [])
theorem okJ2_add_2 : COk kJ2_add_2 3 := ⟨by decide, by decide, by decide +kernel, q823, q70, by decide⟩
abbrev kJ2_elementData : KX := (yJ2_elementData, cJ2_elementData, 2, some (FieldType.object "java/lang/Object"), [])
theorem okJ2_elementData : COk kJ2_elementData 1 := ⟨by decide, by decide, by decide +kernel, q1154, q70, by decide⟩
abbrev kJ2_get : KX := (yJ2_get, cJ2_get, 2, some (FieldType.object "java/lang/Object"), [])
theorem okJ2_get : COk kJ2_get 1 := ⟨by decide, by decide, by decide +kernel, q1146, q70, by decide⟩
abbrev kJ2_grow : KX := (yJ2_grow, cJ2_grow, 1, some (FieldType.array (FieldType.object "java/lang/Object")), [])
theorem okJ2_grow : COk kJ2_grow 0 := ⟨by decide, by decide, by decide +kernel, q827, q70, by decide⟩
abbrev kJ2_grow_2 : KX := (yJ2_grow_2, cJ2_grow_2, 4, some (FieldType.array (FieldType.object "java/lang/Object")), [])
theorem okJ2_grow_2 : COk kJ2_grow_2 1 := ⟨by decide, by decide, by decide +kernel, q831, q70, by decide⟩
abbrev kJ2_init : KX := (yJ2_init, cJ2_init, 1, none, [])
theorem okJ2_init : COk kJ2_init 0 := ⟨by decide, by decide, by decide +kernel, q170, q70, by decide⟩
abbrev kJ2_iterator : KX := (yJ2_iterator, cJ2_iterator, 1, some (FieldType.object "java/util/Iterator"), [])
theorem okJ2_iterator : COk kJ2_iterator 0 := ⟨by decide, by decide, by decide +kernel, q719, q70, by decide⟩
abbrev kJ2_size : KX := (yJ2_size, cJ2_size, 1, some FieldType.int, [])
theorem okJ2_size : COk kJ2_size 0 := ⟨by decide, by decide, by decide +kernel, q878, q70, by decide⟩
abbrev kJ3_addLast : KX := (yJ3_addLast, cJ3_addLast, 3, none, [])
theorem okJ3_addLast : COk kJ3_addLast 1 := ⟨by decide, by decide, by decide +kernel, q1523, q71, by decide⟩
abbrev kJ3_circularClear : KX := (yJ3_circularClear, cJ3_circularClear, 4, none, [])
theorem okJ3_circularClear : COk kJ3_circularClear 3 := ⟨by decide, by decide, by decide +kernel, q326, q71, by decide⟩
abbrev kJ3_clear : KX := (yJ3_clear, cJ3_clear, 1, none, [])
theorem okJ3_clear : COk kJ3_clear 0 := ⟨by decide, by decide, by decide +kernel, q323, q71, by decide⟩
abbrev kJ3_dec : KX := (yJ3_dec, cJ3_dec, 2, some FieldType.int, [])
theorem okJ3_dec : COk kJ3_dec 2 := ⟨by decide, by decide, by decide +kernel, q2064, q71, by decide⟩
abbrev kJ3_elementAt : KX := (yJ3_elementAt, cJ3_elementAt, 2, some (FieldType.object "java/lang/Object"), [])
theorem okJ3_elementAt : COk kJ3_elementAt 2 := ⟨by decide, by decide, by decide +kernel, q1516, q71, by decide⟩
abbrev kJ3_grow : KX := (yJ3_grow, cJ3_grow, 9, none, [])
theorem okJ3_grow : COk kJ3_grow 1 := ⟨by decide, by decide, by decide +kernel, q1527, q71, by decide⟩
abbrev kJ3_inc : KX := (yJ3_inc, cJ3_inc, 2, some FieldType.int, [])
theorem okJ3_inc : COk kJ3_inc 2 := ⟨by decide, by decide, by decide +kernel, q784, q71, by decide⟩
abbrev kJ3_init : KX := (yJ3_init, cJ3_init, 1, none, [])
theorem okJ3_init : COk kJ3_init 0 := ⟨by decide, by decide, by decide +kernel, q242, q71, by decide⟩
abbrev kJ3_isEmpty : KX := (yJ3_isEmpty, cJ3_isEmpty, 1, some FieldType.boolean, [])
theorem okJ3_isEmpty : COk kJ3_isEmpty 0 := ⟨by decide, by decide, by decide +kernel, q2053, q71, by decide⟩
abbrev kJ3_iterator : KX := (yJ3_iterator, cJ3_iterator, 1, some (FieldType.object "java/util/Iterator"), [])
theorem okJ3_iterator : COk kJ3_iterator 0 := ⟨by decide, by decide, by decide +kernel, q1353, q71, by decide⟩
abbrev kJ3_newCapacity : KX := (yJ3_newCapacity, cJ3_newCapacity, 5, some FieldType.int, [])
theorem okJ3_newCapacity : COk kJ3_newCapacity 2 := ⟨by decide, by decide, by decide +kernel, q1532, q71, by decide⟩
abbrev kJ3_nonNullElementAt : KX := (yJ3_nonNullElementAt, cJ3_nonNullElementAt, 3, some (FieldType.object "java/lang/Object"), [])
theorem okJ3_nonNullElementAt : COk kJ3_nonNullElementAt 2 := ⟨by decide, by decide, by decide +kernel, q781, q71, by decide⟩
abbrev kJ3_pollFirst : KX := (yJ3_pollFirst, cJ3_pollFirst, 4, some (FieldType.object "java/lang/Object"), [])
theorem okJ3_pollFirst : COk kJ3_pollFirst 0 := ⟨by decide, by decide, by decide +kernel, q1513, q71, by decide⟩
abbrev kJ3_pollLast : KX := (yJ3_pollLast, cJ3_pollLast, 4, some (FieldType.object "java/lang/Object"), [])
theorem okJ3_pollLast : COk kJ3_pollLast 0 := ⟨by decide, by decide, by decide +kernel, q2061, q71, by decide⟩
abbrev kJ3_removeFirst : KX := (yJ3_removeFirst, cJ3_removeFirst, 2, some (FieldType.object "java/lang/Object"), [])
theorem okJ3_removeFirst : COk kJ3_removeFirst 0 := ⟨by decide, by decide, by decide +kernel, q1509, q71, by decide⟩
abbrev kJ3_removeLast : KX := (yJ3_removeLast, cJ3_removeLast, 2, some (FieldType.object "java/lang/Object"), [])
theorem okJ3_removeLast : COk kJ3_removeLast 0 := ⟨by decide, by decide, by decide +kernel, q2057, q71, by decide⟩
abbrev kJ3_size : KX := (yJ3_size, cJ3_size, 1, some FieldType.int, [])
theorem okJ3_size : COk kJ3_size 0 := ⟨by decide, by decide, by decide +kernel, q1363, q71, by decide⟩
abbrev kJ3_sub : KX := (yJ3_sub, cJ3_sub, 3, some FieldType.int, [])
theorem okJ3_sub : COk kJ3_sub 3 := ⟨by decide, by decide, by decide +kernel, q1366, q71, by decide⟩
abbrev kJ4_append : KX := (yJ4_append, cJ4_append, 4, some (FieldType.object "java/lang/AbstractStringBuilder"), [])
theorem okJ4_append : COk kJ4_append 1 := ⟨by decide, by decide, by decide +kernel, q343, q72, by decide⟩
abbrev kJ4_appendNull : KX := (yJ4_appendNull, cJ4_appendNull, 3, some (FieldType.object "java/lang/AbstractStringBuilder"), [])
theorem okJ4_appendNull : COk kJ4_appendNull 0 := ⟨by decide, by decide, by decide +kernel, q582, q72, by decide⟩
abbrev kJ4_append_2 : KX := (yJ4_append_2, cJ4_append_2, 2, some (FieldType.object "java/lang/AbstractStringBuilder"), [])
theorem okJ4_append_2 : COk kJ4_append_2 1 := ⟨by decide, by decide, by decide +kernel, q458, q72, by decide⟩
abbrev kJ4_append_3 : KX := (yJ4_append_3, cJ4_append_3, 3, some (FieldType.object "java/lang/AbstractStringBuilder"), [])
theorem okJ4_append_3 : COk kJ4_append_3 1 := ⟨by decide, by decide, by decide +kernel, q578, q72, by decide⟩
abbrev kJ4_charAt : KX := (yJ4_charAt, cJ4_charAt, 5, some FieldType.char, [])
theorem okJ4_charAt : COk kJ4_charAt 1 := ⟨by decide, by decide, by decide +kernel, q1983, q72, by decide⟩
abbrev kJ4_ensureCapacityInternal : KX := (yJ4_ensureCapacityInternal, cJ4_ensureCapacityInternal, 3, none, [])
theorem okJ4_ensureCapacityInternal : COk kJ4_ensureCapacityInternal 1 := ⟨by decide, by decide, by decide +kernel, q350, q72, by decide⟩
abbrev kJ4_getValue : KX := (yJ4_getValue, cJ4_getValue, 1, some (FieldType.array FieldType.byte), [])
theorem okJ4_getValue : COk kJ4_getValue 0 := ⟨by decide, by decide, by decide +kernel, q501, q72, by decide⟩
abbrev kJ4_inflate : KX := (yJ4_inflate, cJ4_inflate, 2, none, [])
theorem okJ4_inflate : COk kJ4_inflate 0 := ⟨by decide, by decide, by decide +kernel, q465, q72, by decide⟩
abbrev kJ4_inflateIfNeededFor : KX := (yJ4_inflateIfNeededFor, cJ4_inflateIfNeededFor, 2, none, [])
theorem okJ4_inflateIfNeededFor : COk kJ4_inflateIfNeededFor 1 := ⟨by decide, by decide, by decide +kernel, q601, q72, by decide⟩
abbrev kJ4_init : KX := (yJ4_init, cJ4_init, 2, none, [])
theorem okJ4_init : COk kJ4_init 1 := ⟨by decide, by decide, by decide +kernel, q265, q72, by decide⟩
abbrev kJ4_isLatin1 : KX := (yJ4_isLatin1, cJ4_isLatin1, 1, some FieldType.boolean, [])
theorem okJ4_isLatin1 : COk kJ4_isLatin1 0 := ⟨by decide, by decide, by decide +kernel, q384, q72, by decide⟩
abbrev kJ4_length : KX := (yJ4_length, cJ4_length, 1, some FieldType.int, [])
theorem okJ4_length : COk kJ4_length 0 := ⟨by decide, by decide, by decide +kernel, q509, q72, by decide⟩
abbrev kJ4_newCapacity : KX := (yJ4_newCapacity, cJ4_newCapacity, 6, some FieldType.int, [])
theorem okJ4_newCapacity : COk kJ4_newCapacity 1 := ⟨by decide, by decide, by decide +kernel, q354, q72, by decide⟩
abbrev kJ4_putStringAt : KX := (yJ4_putStringAt, cJ4_putStringAt, 3, none, [])
theorem okJ4_putStringAt : COk kJ4_putStringAt 2 := ⟨by decide, by decide, by decide +kernel, q597, q72, by decide⟩
abbrev kJ5_append : KX := (yJ5_append, cJ5_append, 2, some (FieldType.object "java/lang/StringBuilder"), [])
theorem okJ5_append : COk kJ5_append 1 := ⟨by decide, by decide, by decide +kernel, q340, q73, by decide⟩
abbrev kJ5_append_2 : KX := (yJ5_append_2, cJ5_append_2, 2, some (FieldType.object "java/lang/StringBuilder"), [])
theorem okJ5_append_2 : COk kJ5_append_2 1 := ⟨by decide, by decide, by decide +kernel, q455, q73, by decide⟩
abbrev kJ5_append_3 : KX := (yJ5_append_3, cJ5_append_3, 2, some (FieldType.object "java/lang/StringBuilder"), [])
theorem okJ5_append_3 : COk kJ5_append_3 1 := ⟨by decide, by decide, by decide +kernel, q575, q73, by decide⟩
abbrev kJ5_charAt : KX := (yJ5_charAt, cJ5_charAt, 2, some FieldType.char, [])
theorem okJ5_charAt : COk kJ5_charAt 1 := ⟨by decide, by decide, by decide +kernel, q1980, q73, by decide⟩
abbrev kJ5_init : KX := (yJ5_init, cJ5_init, 1, none, [])
theorem okJ5_init : COk kJ5_init 0 := ⟨by decide, by decide, by decide +kernel, q262, q73, by decide⟩
abbrev kJ5_length : KX := (yJ5_length, cJ5_length, 1, some FieldType.int, [])
theorem okJ5_length : COk kJ5_length 0 := ⟨by decide, by decide, by decide +kernel, q507, q73, by decide⟩
abbrev kJ5_toString : KX := (yJ5_toString, cJ5_toString, 1, some (FieldType.object "java/lang/String"), [])
theorem okJ5_toString : COk kJ5_toString 0 := ⟨by decide, by decide, by decide +kernel, q487, q73, by decide⟩
abbrev kJ6_charAt : KX := (yJ6_charAt, cJ6_charAt, 2, some FieldType.char, [])
theorem okJ6_charAt : COk kJ6_charAt 1 := ⟨by decide, by decide, by decide +kernel, q427, q74, by decide⟩
abbrev kJ6_checkBoundsBeginEnd : KX := (yJ6_checkBoundsBeginEnd, cJ6_checkBoundsBeginEnd, 3, none, [])
theorem okJ6_checkBoundsBeginEnd : COk kJ6_checkBoundsBeginEnd 3 := ⟨by decide, by decide, by decide +kernel, q403, q74, by decide⟩
abbrev kJ6_checkBoundsOffCount : KX := (yJ6_checkBoundsOffCount, cJ6_checkBoundsOffCount, 3, some FieldType.int, [])
theorem okJ6_checkBoundsOffCount : COk kJ6_checkBoundsOffCount 3 := ⟨by decide, by decide, by decide +kernel, q477, q74, by decide⟩
abbrev kJ6_checkIndex : KX := (yJ6_checkIndex, cJ6_checkIndex, 2, none, [])
theorem okJ6_checkIndex : COk kJ6_checkIndex 2 := ⟨by decide, by decide, by decide +kernel, q438, q74, by decide⟩
abbrev kJ6_coder : KX := (yJ6_coder, cJ6_coder, 1, some FieldType.byte, [])
theorem okJ6_coder : COk kJ6_coder 0 := ⟨by decide, by decide, by decide +kernel, q593, q74, by decide⟩
abbrev kJ6_equals : KX := (yJ6_equals, cJ6_equals, 3, some FieldType.boolean, [])
theorem okJ6_equals : COk kJ6_equals 1 := ⟨by decide, by decide, by decide +kernel, q979, q74, by decide⟩
abbrev kJ6_getBytes : KX := (yJ6_getBytes, cJ6_getBytes, 4, none, [])
theorem okJ6_getBytes : COk kJ6_getBytes 3 := ⟨by decide, by decide, by decide +kernel, q606, q74, by decide⟩
abbrev kJ6_hashCode : KX := (yJ6_hashCode, cJ6_hashCode, 2, some FieldType.int, [])
theorem okJ6_hashCode : COk kJ6_hashCode 0 := ⟨by decide, by decide, by decide +kernel, q921, q74, by decide⟩
abbrev kJ6_init : KX := (yJ6_init, cJ6_init, 2, none, [])
theorem okJ6_init : COk kJ6_init 1 := ⟨by decide, by decide, by decide +kernel, q492, q74, by decide⟩
abbrev kJ6_init_2 : KX := (yJ6_init_2, cJ6_init_2, 5, none, [])
theorem okJ6_init_2 : COk kJ6_init_2 2 := ⟨by decide, by decide, by decide +kernel, q495, q74, by decide⟩
abbrev kJ6_isLatin1 : KX := (yJ6_isLatin1, cJ6_isLatin1, 1, some FieldType.boolean, [])
theorem okJ6_isLatin1 : COk kJ6_isLatin1 0 := ⟨by decide, by decide, by decide +kernel, q431, q74, by decide⟩
abbrev kJ6_length : KX := (yJ6_length, cJ6_length, 1, some FieldType.int, [])
theorem okJ6_length : COk kJ6_length 0 := ⟨by decide, by decide, by decide +kernel, q589, q74, by decide⟩
abbrev kJ7_charAt : KX := (yJ7_charAt, cJ7_charAt, 2, some FieldType.char, [])
theorem okJ7_charAt : COk kJ7_charAt 2 := ⟨by decide, by decide, by decide +kernel, q444, q75, by decide⟩
abbrev kJ7_checkBoundsBeginEnd : KX := (yJ7_checkBoundsBeginEnd, cJ7_checkBoundsBeginEnd, 3, none, [])
theorem okJ7_checkBoundsBeginEnd : COk kJ7_checkBoundsBeginEnd 3 := ⟨by decide, by decide, by decide +kernel, q397, q75, by decide⟩
abbrev kJ7_checkBoundsOffCount : KX := (yJ7_checkBoundsOffCount, cJ7_checkBoundsOffCount, 3, none, [])
theorem okJ7_checkBoundsOffCount : COk kJ7_checkBoundsOffCount 3 := ⟨by decide, by decide, by decide +kernel, q474, q75, by decide⟩
abbrev kJ7_checkIndex : KX := (yJ7_checkIndex, cJ7_checkIndex, 2, none, [])
theorem okJ7_checkIndex : COk kJ7_checkIndex 2 := ⟨by decide, by decide, by decide +kernel, q447, q75, by decide⟩
abbrev kJ7_coderFromArrayLen : KX := (yJ7_coderFromArrayLen, cJ7_coderFromArrayLen, 2, some FieldType.byte, [])
theorem okJ7_coderFromArrayLen : COk kJ7_coderFromArrayLen 2 := ⟨by decide, by decide, by decide +kernel, q644, q75, by decide⟩
abbrev kJ7_compress : KX := (yJ7_compress, cJ7_compress, 6, some (FieldType.array FieldType.byte), [])
theorem okJ7_compress : COk kJ7_compress 3 := ⟨by decide, by decide, by decide +kernel, q637, q75, by decide⟩
abbrev kJ7_compress_2 : KX := (yJ7_compress_2, cJ7_compress_2, 7, some FieldType.int, [])
theorem okJ7_compress_2 : COk kJ7_compress_2 5 := ⟨by decide, by decide, by decide +kernel, q640, q75, by decide⟩
abbrev kJ7_getChar : KX := (yJ7_getChar, cJ7_getChar, 2, some FieldType.char, [])
theorem okJ7_getChar : COk kJ7_getChar 2 := ⟨by decide, by decide, by decide +kernel, q451, q75, by decide⟩
abbrev kJ7_getChars : KX := (yJ7_getChars, cJ7_getChars, 5, some FieldType.int, [])
theorem okJ7_getChars : COk kJ7_getChars 4 := ⟨by decide, by decide, by decide +kernel, q394, q75, by decide⟩
abbrev kJ7_getChars_2 : KX := (yJ7_getChars_2, cJ7_getChars_2, 7, some FieldType.int, [])
theorem okJ7_getChars_2 : COk kJ7_getChars_2 3 := ⟨by decide, by decide, by decide +kernel, q411, q75, by decide⟩
abbrev kJ7_hashCode : KX := (yJ7_hashCode, cJ7_hashCode, 1, some FieldType.int, [])
theorem okJ7_hashCode : COk kJ7_hashCode 1 := ⟨by decide, by decide, by decide +kernel, q973, q75, by decide⟩
abbrev kJ7_inflate : KX := (yJ7_inflate, cJ7_inflate, 6, none, [])
theorem okJ7_inflate : COk kJ7_inflate 5 := ⟨by decide, by decide, by decide +kernel, q471, q75, by decide⟩
abbrev kJ7_length : KX := (yJ7_length, cJ7_length, 1, some FieldType.int, [])
theorem okJ7_length : COk kJ7_length 1 := ⟨by decide, by decide, by decide +kernel, q400, q75, by decide⟩
abbrev kJ7_newBytesFor : KX := (yJ7_newBytesFor, cJ7_newBytesFor, 1, some (FieldType.array FieldType.byte), [])
theorem okJ7_newBytesFor : COk kJ7_newBytesFor 1 := ⟨by decide, by decide, by decide +kernel, q271, q75, by decide⟩
abbrev kJ7_newBytesLength : KX := (yJ7_newBytesLength, cJ7_newBytesLength, 1, some FieldType.int, [])
theorem okJ7_newBytesLength : COk kJ7_newBytesLength 1 := ⟨by decide, by decide, by decide +kernel, q274, q75, by decide⟩
abbrev kJ7_putChar : KX := (yJ7_putChar, cJ7_putChar, 3, none, [])
theorem okJ7_putChar : COk kJ7_putChar 3 := ⟨by decide, by decide, by decide +kernel, q415, q75, by decide⟩
abbrev kJ7_putCharSB : KX := (yJ7_putCharSB, cJ7_putCharSB, 3, none, [])
theorem okJ7_putCharSB : COk kJ7_putCharSB 3 := ⟨by decide, by decide, by decide +kernel, q483, q75, by decide⟩
abbrev kJ7_putCharsAt : KX := (yJ7_putCharsAt, cJ7_putCharsAt, 7, some FieldType.int, [])
theorem okJ7_putCharsAt : COk kJ7_putCharsAt 6 := ⟨by decide, by decide, by decide +kernel, q585, q75, by decide⟩
abbrev kJ8_init : KX := (yJ8_init, cJ8_init, 1, none, [])
theorem okJ8_init : COk kJ8_init 0 := ⟨by decide, by decide, by decide +kernel, q544, q77, by decide⟩
abbrev kJ8_init_2 : KX := (yJ8_init_2, cJ8_init_2, 2, none, [])
theorem okJ8_init_2 : COk kJ8_init_2 1 := ⟨by decide, by decide, by decide +kernel, q621, q77, by decide⟩
abbrev kJ8_init_3 : KX := (yJ8_init_3, cJ8_init_3, 5, none, [])
theorem okJ8_init_3 : COk kJ8_init_3 4 := ⟨by decide, by decide, by decide +kernel, q1061, q77, by decide⟩
abbrev kJ9_init : KX := (yJ9_init, cJ9_init, 2, none, [])
theorem okJ9_init : COk kJ9_init 1 := ⟨by decide, by decide, by decide +kernel, q618, q78, by decide⟩
abbrev kJ9_init_2 : KX := (yJ9_init_2, cJ9_init_2, 1, none, [])
theorem okJ9_init_2 : COk kJ9_init_2 0 := ⟨by decide, by decide, by decide +kernel, q708, q78, by decide⟩
abbrev kJ9_init_3 : KX := (yJ9_init_3, cJ9_init_3, 5, none, [])
theorem okJ9_init_3 : COk kJ9_init_3 4 := ⟨by decide, by decide, by decide +kernel, q1058, q78, by decide⟩
abbrev kX0_account : KX := (yX0_account, cX0_account, 4, some FieldType.int, [((0 : Nat), (9 : Nat), (12 : Nat), (13 : Nat))])
theorem okX0_account : COk kX0_account 3 := ⟨by decide, by decide, by decide +kernel, q1833, q63, by decide⟩
abbrev kX0_append : KX := (yX0_append, cX0_append, 4, some FieldType.int, [((0 : Nat), (9 : Nat), (12 : Nat), (13 : Nat)), ((0 : Nat), (9 : Nat), (15 : Nat), (55 : Nat))])
theorem okX0_append : COk kX0_append 3 := ⟨by decide, by decide, by decide +kernel, q1887, q63, by decide⟩
abbrev kX0_batchOf : KX := (yX0_batchOf, cX0_batchOf, 5, some FieldType.int, [((0 : Nat), (10 : Nat), (13 : Nat), (20 : Nat)), ((0 : Nat), (10 : Nat), (17 : Nat), (13 : Nat))])
theorem okX0_batchOf : COk kX0_batchOf 4 := ⟨by decide, by decide, by decide +kernel, q1606, q63, by decide⟩
abbrev kX0_biteOf : KX := (yX0_biteOf, cX0_biteOf, 7, some FieldType.int, [((0 : Nat), (14 : Nat), (17 : Nat), (20 : Nat)), ((0 : Nat), (14 : Nat), (21 : Nat), (13 : Nat))])
theorem okX0_biteOf : COk kX0_biteOf 6 := ⟨by decide, by decide, by decide +kernel, q1587, q63, by decide⟩
abbrev kX0_buy : KX := (yX0_buy, cX0_buy, 5, some FieldType.int, [((0 : Nat), (10 : Nat), (13 : Nat), (13 : Nat)), ((0 : Nat), (10 : Nat), (17 : Nat), (15 : Nat))])
theorem okX0_buy : COk kX0_buy 4 := ⟨by decide, by decide, by decide +kernel, q665, q63, by decide⟩
abbrev kX0_character : KX := (yX0_character, cX0_character, 4, some FieldType.int, [((0 : Nat), (9 : Nat), (12 : Nat), (20 : Nat))])
theorem okX0_character : COk kX0_character 3 := ⟨by decide, by decide, by decide +kernel, q1818, q63, by decide⟩
abbrev kX0_dress : KX := (yX0_dress, cX0_dress, 4, some FieldType.int, [((0 : Nat), (9 : Nat), (12 : Nat), (20 : Nat)), ((0 : Nat), (9 : Nat), (15 : Nat), (15 : Nat))])
theorem okX0_dress : COk kX0_dress 3 := ⟨by decide, by decide, by decide +kernel, q1571, q63, by decide⟩
abbrev kX0_errorPosition : KX := (yX0_errorPosition, cX0_errorPosition, 3, some FieldType.int, [((0 : Nat), (8 : Nat), (11 : Nat), (60 : Nat))])
theorem okX0_errorPosition : COk kX0_errorPosition 2 := ⟨by decide, by decide, by decide +kernel, q2031, q63, by decide⟩
abbrev kX0_grind : KX := (yX0_grind, cX0_grind, 7, some FieldType.int, [((0 : Nat), (14 : Nat), (17 : Nat), (20 : Nat)), ((0 : Nat), (14 : Nat), (21 : Nat), (13 : Nat)), ((0 : Nat), (14 : Nat), (25 : Nat), (15 : Nat))])
theorem okX0_grind : COk kX0_grind 6 := ⟨by decide, by decide, by decide +kernel, q1579, q63, by decide⟩
abbrev kX0_jar : KX := (yX0_jar, cX0_jar, 5, some FieldType.int, [((0 : Nat), (10 : Nat), (13 : Nat), (20 : Nat)), ((0 : Nat), (10 : Nat), (17 : Nat), (13 : Nat)), ((0 : Nat), (10 : Nat), (21 : Nat), (15 : Nat))])
theorem okX0_jar : COk kX0_jar 4 := ⟨by decide, by decide, by decide +kernel, q1616, q63, by decide⟩
abbrev kX0_jarOf : KX := (yX0_jarOf, cX0_jarOf, 5, some FieldType.int, [((0 : Nat), (10 : Nat), (13 : Nat), (20 : Nat)), ((0 : Nat), (10 : Nat), (17 : Nat), (13 : Nat))])
theorem okX0_jarOf : COk kX0_jarOf 4 := ⟨by decide, by decide, by decide +kernel, q1640, q63, by decide⟩
abbrev kX0_lay : KX := (yX0_lay, cX0_lay, 6, some FieldType.int, [((0 : Nat), (12 : Nat), (15 : Nat), (20 : Nat)), ((0 : Nat), (12 : Nat), (19 : Nat), (13 : Nat)), ((0 : Nat), (12 : Nat), (23 : Nat), (15 : Nat))])
theorem okX0_lay : COk kX0_lay 5 := ⟨by decide, by decide, by decide +kernel, q1776, q63, by decide⟩
abbrev kX0_line : KX := (yX0_line, cX0_line, 4, some FieldType.int, [((0 : Nat), (9 : Nat), (12 : Nat), (20 : Nat))])
theorem okX0_line : COk kX0_line 3 := ⟨by decide, by decide, by decide +kernel, q1793, q63, by decide⟩
abbrev kX0_meanTear : KX := (yX0_meanTear, cX0_meanTear, 3, some FieldType.int, [((0 : Nat), (7 : Nat), (10 : Nat), (105 : Nat))])
theorem okX0_meanTear : COk kX0_meanTear 2 := ⟨by decide, by decide, by decide +kernel, q1847, q63, by decide⟩
abbrev kX0_mix : KX := (yX0_mix, cX0_mix, 5, some FieldType.int, [((0 : Nat), (10 : Nat), (13 : Nat), (20 : Nat)), ((0 : Nat), (10 : Nat), (17 : Nat), (13 : Nat)), ((0 : Nat), (10 : Nat), (21 : Nat), (15 : Nat))])
theorem okX0_mix : COk kX0_mix 4 := ⟨by decide, by decide, by decide +kernel, q1598, q63, by decide⟩
abbrev kX0_onTray : KX := (yX0_onTray, cX0_onTray, 4, some FieldType.int, [((0 : Nat), (9 : Nat), (12 : Nat), (20 : Nat)), ((0 : Nat), (9 : Nat), (15 : Nat), (60 : Nat))])
theorem okX0_onTray : COk kX0_onTray 3 := ⟨by decide, by decide, by decide +kernel, q1784, q63, by decide⟩
abbrev kX0_open : KX := (yX0_open, cX0_open, 4, some FieldType.int, [((0 : Nat), (9 : Nat), (12 : Nat), (20 : Nat)), ((0 : Nat), (9 : Nat), (15 : Nat), (15 : Nat))])
theorem okX0_open : COk kX0_open 3 := ⟨by decide, by decide, by decide +kernel, q1624, q63, by decide⟩
abbrev kX0_order : KX := (yX0_order, cX0_order, 5, some FieldType.int, [((0 : Nat), (10 : Nat), (13 : Nat), (13 : Nat)), ((0 : Nat), (10 : Nat), (17 : Nat), (15 : Nat))])
theorem okX0_order : COk kX0_order 4 := ⟨by decide, by decide, by decide +kernel, q1721, q63, by decide⟩
abbrev kX0_orderOf : KX := (yX0_orderOf, cX0_orderOf, 5, some FieldType.int, [((0 : Nat), (10 : Nat), (13 : Nat), (20 : Nat)), ((0 : Nat), (10 : Nat), (17 : Nat), (13 : Nat))])
theorem okX0_orderOf : COk kX0_orderOf 4 := ⟨by decide, by decide, by decide +kernel, q1737, q63, by decide⟩
abbrev kX0_quernOf : KX := (yX0_quernOf, cX0_quernOf, 5, some FieldType.int, [((0 : Nat), (10 : Nat), (13 : Nat), (20 : Nat)), ((0 : Nat), (10 : Nat), (17 : Nat), (13 : Nat))])
theorem okX0_quernOf : COk kX0_quernOf 4 := ⟨by decide, by decide, by decide +kernel, q1544, q63, by decide⟩
abbrev kX0_read : KX := (yX0_read, cX0_read, 3, some FieldType.int, [((0 : Nat), (8 : Nat), (11 : Nat), (13 : Nat)), ((0 : Nat), (8 : Nat), (14 : Nat), (15 : Nat))])
theorem okX0_read : COk kX0_read 2 := ⟨by decide, by decide, by decide +kernel, q1897, q63, by decide⟩
abbrev kX0_refusal : KX := (yX0_refusal, cX0_refusal, 4, some FieldType.int, [((0 : Nat), (9 : Nat), (12 : Nat), (55 : Nat))])
theorem okX0_refusal : COk kX0_refusal 3 := ⟨by decide, by decide, by decide +kernel, q1826, q63, by decide⟩
abbrev kX0_refusedItem : KX := (yX0_refusedItem, cX0_refusedItem, 3, some FieldType.int, [((0 : Nat), (8 : Nat), (11 : Nat), (60 : Nat))])
theorem okX0_refusedItem : COk kX0_refusedItem 2 := ⟨by decide, by decide, by decide +kernel, q2038, q63, by decide⟩
abbrev kX0_rest : KX := (yX0_rest, cX0_rest, 4, some FieldType.int, [((0 : Nat), (9 : Nat), (12 : Nat), (13 : Nat))])
theorem okX0_rest : COk kX0_rest 3 := ⟨by decide, by decide, by decide +kernel, q1760, q63, by decide⟩
abbrev kX0_restore : KX := (yX0_restore, cX0_restore, 3, some FieldType.int, [((0 : Nat), (8 : Nat), (11 : Nat), (55 : Nat))])
theorem okX0_restore : COk kX0_restore 2 := ⟨by decide, by decide, by decide +kernel, q2067, q63, by decide⟩
abbrev kX0_sell : KX := (yX0_sell, cX0_sell, 4, some FieldType.int, [((0 : Nat), (9 : Nat), (12 : Nat), (20 : Nat)), ((0 : Nat), (9 : Nat), (15 : Nat), (15 : Nat))])
theorem okX0_sell : COk kX0_sell 3 := ⟨by decide, by decide, by decide +kernel, q1632, q63, by decide⟩
abbrev kX0_serve : KX := (yX0_serve, cX0_serve, 4, some FieldType.int, [((0 : Nat), (9 : Nat), (12 : Nat), (20 : Nat)), ((0 : Nat), (9 : Nat), (15 : Nat), (15 : Nat))])
theorem okX0_serve : COk kX0_serve 3 := ⟨by decide, by decide, by decide +kernel, q1729, q63, by decide⟩
abbrev kX0_servedIn : KX := (yX0_servedIn, cX0_servedIn, 4, some FieldType.int, [((0 : Nat), (9 : Nat), (12 : Nat), (20 : Nat)), ((0 : Nat), (9 : Nat), (15 : Nat), (55 : Nat)), ((0 : Nat), (9 : Nat), (18 : Nat), (60 : Nat))])
theorem okX0_servedIn : COk kX0_servedIn 3 := ⟨by decide, by decide, by decide +kernel, q1748, q63, by decide⟩
abbrev kX0_soldShare : KX := (yX0_soldShare, cX0_soldShare, 3, some FieldType.int, [((0 : Nat), (8 : Nat), (11 : Nat), (105 : Nat))])
theorem okX0_soldShare : COk kX0_soldShare 2 := ⟨by decide, by decide, by decide +kernel, q1880, q63, by decide⟩
abbrev kX0_strongest : KX := (yX0_strongest, cX0_strongest, 4, some FieldType.int, [((0 : Nat), (9 : Nat), (12 : Nat), (60 : Nat))])
theorem okX0_strongest : COk kX0_strongest 3 := ⟨by decide, by decide, by decide +kernel, q1672, q63, by decide⟩
abbrev kX0_tearBehind : KX := (yX0_tearBehind, cX0_tearBehind, 6, some FieldType.int, [((0 : Nat), (12 : Nat), (15 : Nat), (20 : Nat)), ((0 : Nat), (12 : Nat), (19 : Nat), (13 : Nat)), ((0 : Nat), (12 : Nat), (23 : Nat), (55 : Nat))])
theorem okX0_tearBehind : COk kX0_tearBehind 5 := ⟨by decide, by decide, by decide +kernel, q1651, q63, by decide⟩
abbrev kX0_tray : KX := (yX0_tray, cX0_tray, 4, some FieldType.int, [((0 : Nat), (9 : Nat), (12 : Nat), (13 : Nat))])
theorem okX0_tray : COk kX0_tray 3 := ⟨by decide, by decide, by decide +kernel, q1768, q63, by decide⟩
abbrev kX0_undo : KX := (yX0_undo, cX0_undo, 3, some FieldType.int, [((0 : Nat), (8 : Nat), (11 : Nat), (55 : Nat))])
theorem okX0_undo : COk kX0_undo 2 := ⟨by decide, by decide, by decide +kernel, q2045, q63, by decide⟩
abbrev kX10_bite : KX := (yX10_bite, cX10_bite, 5, some FieldType.int, [])
theorem okX10_bite : COk kX10_bite 2 := ⟨by decide, by decide, by decide +kernel, q1084, q97, by decide⟩
abbrev kX10_tear : KX := (yX10_tear, cX10_tear, 4, some FieldType.int, [])
theorem okX10_tear : COk kX10_tear 1 := ⟨by decide, by decide, by decide +kernel, q1272, q97, by decide⟩
abbrev kX10_tearAgain : KX := (yX10_tearAgain, cX10_tearAgain, 6, some FieldType.int, [])
theorem okX10_tearAgain : COk kX10_tearAgain 1 := ⟨by decide, by decide, by decide +kernel, q1669, q97, by decide⟩
abbrev kX11_clone : KX := (yX11_clone, cX11_clone, 1, some (FieldType.object "MustardMill$Jar"), [])
theorem okX11_clone : COk kX11_clone 0 := ⟨by decide, by decide, by decide +kernel, q883, q99, by decide⟩
abbrev kX11_init : KX := (yX11_init, cX11_init, 3, none, [])
theorem okX11_init : COk kX11_init 2 := ⟨by decide, by decide, by decide +kernel, q1200, q99, by decide⟩
abbrev kX11_isAheadOf : KX := (yX11_isAheadOf, cX11_isAheadOf, 2, some FieldType.boolean, [])
theorem okX11_isAheadOf : COk kX11_isAheadOf 1 := ⟨by decide, by decide, by decide +kernel, q1703, q99, by decide⟩
abbrev kX11_isAheadOf_2 : KX := (yX11_isAheadOf_2, cX11_isAheadOf_2, 3, some FieldType.boolean, [])
theorem okX11_isAheadOf_2 : COk kX11_isAheadOf_2 1 := ⟨by decide, by decide, by decide +kernel, q1707, q99, by decide⟩
abbrev kX11_isRipe : KX := (yX11_isRipe, cX11_isRipe, 1, some FieldType.boolean, [])
theorem okX11_isRipe : COk kX11_isRipe 0 := ⟨by decide, by decide, by decide +kernel, q1307, q99, by decide⟩
abbrev kX11_missing : KX := (yX11_missing, cX11_missing, 1, some FieldType.int, [])
theorem okX11_missing : COk kX11_missing 0 := ⟨by decide, by decide, by decide +kernel, q1311, q99, by decide⟩
abbrev kX11_rests : KX := (yX11_rests, cX11_rests, 1, some FieldType.boolean, [])
theorem okX11_rests : COk kX11_rests 0 := ⟨by decide, by decide, by decide +kernel, q1411, q99, by decide⟩
abbrev kX11_tear : KX := (yX11_tear, cX11_tear, 2, some FieldType.int, [])
theorem okX11_tear : COk kX11_tear 0 := ⟨by decide, by decide, by decide +kernel, q1253, q99, by decide⟩
abbrev kX11_told : KX := (yX11_told, cX11_told, 2, some (FieldType.object "java/lang/String"), [])
theorem okX11_told : COk kX11_told 0 := ⟨by decide, by decide, by decide +kernel, q1801, q99, by decide⟩
abbrev kX12_bite : KX := (yX12_bite, cX12_bite, 1, some FieldType.int, [])
theorem okX12_bite : COk kX12_bite 0 := ⟨by decide, by decide, by decide +kernel, q1297, q100, by decide⟩
abbrev kX12_init : KX := (yX12_init, cX12_init, 2, none, [])
theorem okX12_init : COk kX12_init 1 := ⟨by decide, by decide, by decide +kernel, q1258, q100, by decide⟩
abbrev kX12_ripeDays : KX := (yX12_ripeDays, cX12_ripeDays, 1, some FieldType.int, [])
theorem okX12_ripeDays : COk kX12_ripeDays 0 := ⟨by decide, by decide, by decide +kernel, q1285, q100, by decide⟩
abbrev kX13_count : KX := (yX13_count, cX13_count, 5, some FieldType.int, [])
theorem okX13_count : COk kX13_count 2 := ⟨by decide, by decide, by decide +kernel, q1339, q101, by decide⟩
abbrev kX13_is : KX := (yX13_is, cX13_is, 2, some FieldType.boolean, [])
theorem okX13_is : COk kX13_is 1 := ⟨by decide, by decide, by decide +kernel, q1161, q101, by decide⟩
abbrev kX14_clone : KX := (yX14_clone, cX14_clone, 1, some (FieldType.object "MustardMill$Wish"), [])
theorem okX14_clone : COk kX14_clone 0 := ⟨by decide, by decide, by decide +kernel, q891, q103, by decide⟩
abbrev kX14_init : KX := (yX14_init, cX14_init, 4, none, [])
theorem okX14_init : COk kX14_init 3 := ⟨by decide, by decide, by decide +kernel, q1429, q103, by decide⟩
abbrev kX14_suits : KX := (yX14_suits, cX14_suits, 2, some FieldType.boolean, [])
theorem okX14_suits : COk kX14_suits 1 := ⟨by decide, by decide, by decide +kernel, q1333, q103, by decide⟩
abbrev kX15_at : KX := (yX15_at, cX15_at, 7, some (FieldType.object "MustardMill$Ranked"), [])
theorem okX15_at : COk kX15_at 2 := ⟨by decide, by decide, by decide +kernel, q1687, q107, by decide⟩
abbrev kX16_init : KX := (yX16_init, cX16_init, 2, none, [])
theorem okX16_init : COk kX16_init 1 := ⟨by decide, by decide, by decide +kernel, q1911, q109, by decide⟩
abbrev kX16_isAt : KX := (yX16_isAt, cX16_isAt, 3, some FieldType.boolean, [])
theorem okX16_isAt : COk kX16_isAt 2 := ⟨by decide, by decide, by decide +kernel, q1956, q109, by decide⟩
abbrev kX16_letters : KX := (yX16_letters, cX16_letters, 3, some FieldType.int, [])
theorem okX16_letters : COk kX16_letters 1 := ⟨by decide, by decide, by decide +kernel, q1950, q109, by decide⟩
abbrev kX16_number : KX := (yX16_number, cX16_number, 4, some FieldType.int, [])
theorem okX16_number : COk kX16_number 0 := ⟨by decide, by decide, by decide +kernel, q2013, q109, by decide⟩
abbrev kX16_order : KX := (yX16_order, cX16_order, 4, some (FieldType.object "MustardMill$Change"), [])
theorem okX16_order : COk kX16_order 0 := ⟨by decide, by decide, by decide +kernel, q1942, q109, by decide⟩
abbrev kX16_orders : KX := (yX16_orders, cX16_orders, 4, some (FieldType.object "java/util/ArrayList"), [])
theorem okX16_orders : COk kX16_orders 0 := ⟨by decide, by decide, by decide +kernel, q1936, q109, by decide⟩
abbrev kX16_take : KX := (yX16_take, cX16_take, 3, some FieldType.int, [])
theorem okX16_take : COk kX16_take 2 := ⟨by decide, by decide, by decide +kernel, q2017, q109, by decide⟩
abbrev kX16_word : KX := (yX16_word, cX16_word, 7, some (FieldType.object "java/lang/String"), [])
theorem okX16_word : COk kX16_word 0 := ⟨by decide, by decide, by decide +kernel, q1946, q109, by decide⟩
abbrev kX17_init : KX := (yX17_init, cX17_init, 2, none, [])
theorem okX17_init : COk kX17_init 1 := ⟨by decide, by decide, by decide +kernel, q1999, q110, by decide⟩
abbrev kX1_account : KX := (yX1_account, cX1_account, 2, some FieldType.int, [])
theorem okX1_account : COk kX1_account 1 := ⟨by decide, by decide, by decide +kernel, q1837, q64, by decide⟩
abbrev kX1_append : KX := (yX1_append, cX1_append, 5, some FieldType.int, [])
theorem okX1_append : COk kX1_append 1 := ⟨by decide, by decide, by decide +kernel, q1891, q64, by decide⟩
abbrev kX1_batchOf : KX := (yX1_batchOf, cX1_batchOf, 4, some FieldType.int, [])
theorem okX1_batchOf : COk kX1_batchOf 2 := ⟨by decide, by decide, by decide +kernel, q1610, q64, by decide⟩
abbrev kX1_become : KX := (yX1_become, cX1_become, 3, none, [])
theorem okX1_become : COk kX1_become 1 := ⟨by decide, by decide, by decide +kernel, q1504, q64, by decide⟩
abbrev kX1_biteOf : KX := (yX1_biteOf, cX1_biteOf, 5, some FieldType.int, [])
theorem okX1_biteOf : COk kX1_biteOf 4 := ⟨by decide, by decide, by decide +kernel, q1591, q64, by decide⟩
abbrev kX1_buy : KX := (yX1_buy, cX1_buy, 3, some FieldType.int, [])
theorem okX1_buy : COk kX1_buy 2 := ⟨by decide, by decide, by decide +kernel, q671, q64, by decide⟩
abbrev kX1_change : KX := (yX1_change, cX1_change, 6, some FieldType.int, [((8 : Nat), (23 : Nat), (26 : Nat), (80 : Nat))])
theorem okX1_change : COk kX1_change 2 := ⟨by decide, by decide, by decide +kernel, q676, q64, by decide⟩
abbrev kX1_character : KX := (yX1_character, cX1_character, 2, some FieldType.char, [])
theorem okX1_character : COk kX1_character 1 := ⟨by decide, by decide, by decide +kernel, q1822, q64, by decide⟩
abbrev kX1_checkArgument : KX := (yX1_checkArgument, cX1_checkArgument, 1, none, [])
theorem okX1_checkArgument : COk kX1_checkArgument 1 := ⟨by decide, by decide, by decide +kernel, q1030, q64, by decide⟩
abbrev kX1_checkElement : KX := (yX1_checkElement, cX1_checkElement, 1, none, [])
theorem okX1_checkElement : COk kX1_checkElement 1 := ⟨by decide, by decide, by decide +kernel, q1715, q64, by decide⟩
abbrev kX1_checkIndex : KX := (yX1_checkIndex, cX1_checkIndex, 1, none, [])
theorem okX1_checkIndex : COk kX1_checkIndex 1 := ⟨by decide, by decide, by decide +kernel, q1008, q64, by decide⟩
abbrev kX1_checkNumbers : KX := (yX1_checkNumbers, cX1_checkNumbers, 1, none, [])
theorem okX1_checkNumbers : COk kX1_checkNumbers 1 := ⟨by decide, by decide, by decide +kernel, q1868, q64, by decide⟩
abbrev kX1_checkState : KX := (yX1_checkState, cX1_checkState, 1, none, [])
theorem okX1_checkState : COk kX1_checkState 1 := ⟨by decide, by decide, by decide +kernel, q1662, q64, by decide⟩
abbrev kX1_clear : KX := (yX1_clear, cX1_clear, 2, some FieldType.int, [])
theorem okX1_clear : COk kX1_clear 0 := ⟨by decide, by decide, by decide +kernel, q319, q64, by decide⟩
abbrev kX1_dress : KX := (yX1_dress, cX1_dress, 2, some FieldType.int, [])
theorem okX1_dress : COk kX1_dress 1 := ⟨by decide, by decide, by decide +kernel, q1575, q64, by decide⟩
abbrev kX1_errorPosition : KX := (yX1_errorPosition, cX1_errorPosition, 1, some FieldType.int, [])
theorem okX1_errorPosition : COk kX1_errorPosition 0 := ⟨by decide, by decide, by decide +kernel, q2035, q64, by decide⟩
abbrev kX1_grind : KX := (yX1_grind, cX1_grind, 5, some FieldType.int, [])
theorem okX1_grind : COk kX1_grind 4 := ⟨by decide, by decide, by decide +kernel, q1583, q64, by decide⟩
abbrev kX1_inRange : KX := (yX1_inRange, cX1_inRange, 6, some FieldType.boolean, [])
theorem okX1_inRange : COk kX1_inRange 3 := ⟨by decide, by decide, by decide +kernel, q1005, q64, by decide⟩
abbrev kX1_init : KX := (yX1_init, cX1_init, 1, none, [])
theorem okX1_init : COk kX1_init 0 := ⟨by decide, by decide, by decide +kernel, q115, q64, by decide⟩
abbrev kX1_jar : KX := (yX1_jar, cX1_jar, 3, some FieldType.int, [])
theorem okX1_jar : COk kX1_jar 2 := ⟨by decide, by decide, by decide +kernel, q1620, q64, by decide⟩
abbrev kX1_jarOf : KX := (yX1_jarOf, cX1_jarOf, 4, some FieldType.int, [])
theorem okX1_jarOf : COk kX1_jarOf 2 := ⟨by decide, by decide, by decide +kernel, q1644, q64, by decide⟩
abbrev kX1_lay : KX := (yX1_lay, cX1_lay, 4, some FieldType.int, [])
theorem okX1_lay : COk kX1_lay 3 := ⟨by decide, by decide, by decide +kernel, q1780, q64, by decide⟩
abbrev kX1_line : KX := (yX1_line, cX1_line, 2, some FieldType.int, [])
theorem okX1_line : COk kX1_line 1 := ⟨by decide, by decide, by decide +kernel, q1797, q64, by decide⟩
abbrev kX1_meanTear : KX := (yX1_meanTear, cX1_meanTear, 2, some FieldType.double, [])
theorem okX1_meanTear : COk kX1_meanTear 0 := ⟨by decide, by decide, by decide +kernel, q1865, q64, by decide⟩
abbrev kX1_mix : KX := (yX1_mix, cX1_mix, 3, some FieldType.int, [])
theorem okX1_mix : COk kX1_mix 2 := ⟨by decide, by decide, by decide +kernel, q1602, q64, by decide⟩
abbrev kX1_numberOf : KX := (yX1_numberOf, cX1_numberOf, 1, some FieldType.int, [])
theorem okX1_numberOf : COk kX1_numberOf 1 := ⟨by decide, by decide, by decide +kernel, q1712, q64, by decide⟩
abbrev kX1_onTray : KX := (yX1_onTray, cX1_onTray, 2, some FieldType.int, [])
theorem okX1_onTray : COk kX1_onTray 1 := ⟨by decide, by decide, by decide +kernel, q1788, q64, by decide⟩
abbrev kX1_open : KX := (yX1_open, cX1_open, 2, some FieldType.int, [])
theorem okX1_open : COk kX1_open 1 := ⟨by decide, by decide, by decide +kernel, q1628, q64, by decide⟩
abbrev kX1_order : KX := (yX1_order, cX1_order, 3, some FieldType.int, [])
theorem okX1_order : COk kX1_order 2 := ⟨by decide, by decide, by decide +kernel, q1725, q64, by decide⟩
abbrev kX1_orderOf : KX := (yX1_orderOf, cX1_orderOf, 4, some FieldType.int, [])
theorem okX1_orderOf : COk kX1_orderOf 2 := ⟨by decide, by decide, by decide +kernel, q1741, q64, by decide⟩
abbrev kX1_quernOf : KX := (yX1_quernOf, cX1_quernOf, 4, some FieldType.int, [])
theorem okX1_quernOf : COk kX1_quernOf 2 := ⟨by decide, by decide, by decide +kernel, q1567, q64, by decide⟩
abbrev kX1_read : KX := (yX1_read, cX1_read, 7, some FieldType.int, [((15 : Nat), (57 : Nat), (60 : Nat), (80 : Nat)), ((15 : Nat), (57 : Nat), (81 : Nat), (7 : Nat)), ((15 : Nat), (57 : Nat), (81 : Nat), (1 : Nat))])
theorem okX1_read : COk kX1_read 0 := ⟨by decide, by decide, by decide +kernel, q1901, q64, by decide⟩
abbrev kX1_refusal : KX := (yX1_refusal, cX1_refusal, 2, some FieldType.int, [])
theorem okX1_refusal : COk kX1_refusal 1 := ⟨by decide, by decide, by decide +kernel, q1830, q64, by decide⟩
abbrev kX1_refusedItem : KX := (yX1_refusedItem, cX1_refusedItem, 1, some FieldType.int, [])
theorem okX1_refusedItem : COk kX1_refusedItem 0 := ⟨by decide, by decide, by decide +kernel, q2042, q64, by decide⟩
abbrev kX1_rest : KX := (yX1_rest, cX1_rest, 2, some FieldType.int, [])
theorem okX1_rest : COk kX1_rest 1 := ⟨by decide, by decide, by decide +kernel, q1764, q64, by decide⟩
abbrev kX1_restore : KX := (yX1_restore, cX1_restore, 1, some FieldType.int, [])
theorem okX1_restore : COk kX1_restore 0 := ⟨by decide, by decide, by decide +kernel, q2071, q64, by decide⟩
abbrev kX1_sell : KX := (yX1_sell, cX1_sell, 2, some FieldType.int, [])
theorem okX1_sell : COk kX1_sell 1 := ⟨by decide, by decide, by decide +kernel, q1636, q64, by decide⟩
abbrev kX1_serve : KX := (yX1_serve, cX1_serve, 2, some FieldType.int, [])
theorem okX1_serve : COk kX1_serve 1 := ⟨by decide, by decide, by decide +kernel, q1733, q64, by decide⟩
abbrev kX1_servedIn : KX := (yX1_servedIn, cX1_servedIn, 4, some FieldType.int, [])
theorem okX1_servedIn : COk kX1_servedIn 1 := ⟨by decide, by decide, by decide +kernel, q1752, q64, by decide⟩
abbrev kX1_snapshot : KX := (yX1_snapshot, cX1_snapshot, 1, some FieldType.int, [])
theorem okX1_snapshot : COk kX1_snapshot 0 := ⟨by decide, by decide, by decide +kernel, q662, q64, by decide⟩
abbrev kX1_soldShare : KX := (yX1_soldShare, cX1_soldShare, 2, some FieldType.float, [])
theorem okX1_soldShare : COk kX1_soldShare 0 := ⟨by decide, by decide, by decide +kernel, q1884, q64, by decide⟩
abbrev kX1_stockLine : KX := (yX1_stockLine, cX1_stockLine, 1, some FieldType.int, [])
theorem okX1_stockLine : COk kX1_stockLine 0 := ⟨by decide, by decide, by decide +kernel, q330, q64, by decide⟩
abbrev kX1_strongest : KX := (yX1_strongest, cX1_strongest, 2, some FieldType.int, [])
theorem okX1_strongest : COk kX1_strongest 1 := ⟨by decide, by decide, by decide +kernel, q1677, q64, by decide⟩
abbrev kX1_takeOrders : KX := (yX1_takeOrders, cX1_takeOrders, 3, some (FieldType.object "java/util/ArrayList"), [((23 : Nat), (27 : Nat), (28 : Nat), (323 : Nat))])
theorem okX1_takeOrders : COk kX1_takeOrders 0 := ⟨by decide, by decide, by decide +kernel, q1905, q64, by decide⟩
abbrev kX1_tearBehind : KX := (yX1_tearBehind, cX1_tearBehind, 5, some FieldType.int, [])
theorem okX1_tearBehind : COk kX1_tearBehind 3 := ⟨by decide, by decide, by decide +kernel, q1656, q64, by decide⟩
abbrev kX1_tray : KX := (yX1_tray, cX1_tray, 2, some FieldType.int, [])
theorem okX1_tray : COk kX1_tray 1 := ⟨by decide, by decide, by decide +kernel, q1772, q64, by decide⟩
abbrev kX1_undo : KX := (yX1_undo, cX1_undo, 1, some FieldType.int, [])
theorem okX1_undo : COk kX1_undo 0 := ⟨by decide, by decide, by decide +kernel, q2049, q64, by decide⟩
abbrev kX2_biteOf : KX := (yX2_biteOf, cX2_biteOf, 4, some FieldType.int, [])
theorem okX2_biteOf : COk kX2_biteOf 2 := ⟨by decide, by decide, by decide +kernel, q1595, q65, by decide⟩
abbrev kX2_buy : KX := (yX2_buy, cX2_buy, 5, some FieldType.int, [])
theorem okX2_buy : COk kX2_buy 2 := ⟨by decide, by decide, by decide +kernel, q1416, q65, by decide⟩
abbrev kX2_checkNotOnTray : KX := (yX2_checkNotOnTray, cX2_checkNotOnTray, 3, none, [])
theorem okX2_checkNotOnTray : COk kX2_checkNotOnTray 1 := ⟨by decide, by decide, by decide +kernel, q1484, q65, by decide⟩
abbrev kX2_copy : KX := (yX2_copy, cX2_copy, 5, some (FieldType.object "MustardMill$Mill"), [])
theorem okX2_copy : COk kX2_copy 0 := ⟨by decide, by decide, by decide +kernel, q681, q65, by decide⟩
abbrev kX2_dayGoes : KX := (yX2_dayGoes, cX2_dayGoes, 6, some FieldType.int, [])
theorem okX2_dayGoes : COk kX2_dayGoes 0 := ⟨by decide, by decide, by decide +kernel, q1406, q65, by decide⟩
abbrev kX2_dress : KX := (yX2_dress, cX2_dress, 4, some FieldType.int, [])
theorem okX2_dress : COk kX2_dress 1 := ⟨by decide, by decide, by decide +kernel, q1128, q65, by decide⟩
abbrev kX2_fill : KX := (yX2_fill, cX2_fill, 6, some FieldType.int, [])
theorem okX2_fill : COk kX2_fill 2 := ⟨by decide, by decide, by decide +kernel, q1195, q65, by decide⟩
abbrev kX2_get : KX := (yX2_get, cX2_get, 2, none, [])
theorem okX2_get : COk kX2_get 1 := ⟨by decide, by decide, by decide +kernel, q1319, q65, by decide⟩
abbrev kX2_grind : KX := (yX2_grind, cX2_grind, 8, some FieldType.int, [])
theorem okX2_grind : COk kX2_grind 2 := ⟨by decide, by decide, by decide +kernel, q997, q65, by decide⟩
abbrev kX2_init : KX := (yX2_init, cX2_init, 1, none, [])
theorem okX2_init : COk kX2_init 0 := ⟨by decide, by decide, by decide +kernel, q123, q65, by decide⟩
abbrev kX2_jarFor : KX := (yX2_jarFor, cX2_jarFor, 5, some (FieldType.object "MustardMill$Jar"), [])
theorem okX2_jarFor : COk kX2_jarFor 1 := ⟨by decide, by decide, by decide +kernel, q1329, q65, by decide⟩
abbrev kX2_lay : KX := (yX2_lay, cX2_lay, 7, some FieldType.int, [((136 : Nat), (144 : Nat), (147 : Nat), (294 : Nat))])
theorem okX2_lay : COk kX2_lay 3 := ⟨by decide, by decide, by decide +kernel, q1458, q65, by decide⟩
abbrev kX2_mix : KX := (yX2_mix, cX2_mix, 4, some FieldType.int, [])
theorem okX2_mix : COk kX2_mix 2 := ⟨by decide, by decide, by decide +kernel, q1136, q65, by decide⟩
abbrev kX2_onTray : KX := (yX2_onTray, cX2_onTray, 3, some FieldType.int, [])
theorem okX2_onTray : COk kX2_onTray 1 := ⟨by decide, by decide, by decide +kernel, q1452, q65, by decide⟩
abbrev kX2_open : KX := (yX2_open, cX2_open, 3, some FieldType.int, [])
theorem okX2_open : COk kX2_open 1 := ⟨by decide, by decide, by decide +kernel, q1238, q65, by decide⟩
abbrev kX2_order : KX := (yX2_order, cX2_order, 3, some FieldType.int, [])
theorem okX2_order : COk kX2_order 2 := ⟨by decide, by decide, by decide +kernel, q1425, q65, by decide⟩
abbrev kX2_pay : KX := (yX2_pay, cX2_pay, 2, none, [])
theorem okX2_pay : COk kX2_pay 1 := ⟨by decide, by decide, by decide +kernel, q1132, q65, by decide⟩
abbrev kX2_quern : KX := (yX2_quern, cX2_quern, 2, some (FieldType.object "MustardMill$Quern"), [])
theorem okX2_quern : COk kX2_quern 1 := ⟨by decide, by decide, by decide +kernel, q1001, q65, by decide⟩
abbrev kX2_rest : KX := (yX2_rest, cX2_rest, 4, some FieldType.int, [])
theorem okX2_rest : COk kX2_rest 1 := ⟨by decide, by decide, by decide +kernel, q1401, q65, by decide⟩
abbrev kX2_resting : KX := (yX2_resting, cX2_resting, 3, some (FieldType.object "MustardMill$Jar"), [])
theorem okX2_resting : COk kX2_resting 1 := ⟨by decide, by decide, by decide +kernel, q1242, q65, by decide⟩
abbrev kX2_ripe : KX := (yX2_ripe, cX2_ripe, 4, some FieldType.int, [])
theorem okX2_ripe : COk kX2_ripe 0 := ⟨by decide, by decide, by decide +kernel, q1843, q65, by decide⟩
abbrev kX2_sell : KX := (yX2_sell, cX2_sell, 3, some FieldType.int, [])
theorem okX2_sell : COk kX2_sell 1 := ⟨by decide, by decide, by decide +kernel, q1303, q65, by decide⟩
abbrev kX2_serve : KX := (yX2_serve, cX2_serve, 5, some FieldType.int, [])
theorem okX2_serve : COk kX2_serve 1 := ⟨by decide, by decide, by decide +kernel, q1324, q65, by decide⟩
abbrev kX2_servedIn : KX := (yX2_servedIn, cX2_servedIn, 5, some FieldType.int, [])
theorem okX2_servedIn : COk kX2_servedIn 1 := ⟨by decide, by decide, by decide +kernel, q1756, q65, by decide⟩
abbrev kX2_sold : KX := (yX2_sold, cX2_sold, 3, some FieldType.int, [])
theorem okX2_sold : COk kX2_sold 2 := ⟨by decide, by decide, by decide +kernel, q1315, q65, by decide⟩
abbrev kX2_strongest : KX := (yX2_strongest, cX2_strongest, 6, some (FieldType.object "MustardMill$Jar"), [])
theorem okX2_strongest : COk kX2_strongest 1 := ⟨by decide, by decide, by decide +kernel, q1681, q65, by decide⟩
abbrev kX2_sum : KX := (yX2_sum, cX2_sum, 6, some FieldType.int, [])
theorem okX2_sum : COk kX2_sum 1 := ⟨by decide, by decide, by decide +kernel, q1026, q65, by decide⟩
abbrev kX2_takeTray : KX := (yX2_takeTray, cX2_takeTray, 3, some FieldType.int, [])
theorem okX2_takeTray : COk kX2_takeTray 1 := ⟨by decide, by decide, by decide +kernel, q1449, q65, by decide⟩
abbrev kX2_tearsSold : KX := (yX2_tearsSold, cX2_tearsSold, 4, some FieldType.int, [])
theorem okX2_tearsSold : COk kX2_tearsSold 0 := ⟨by decide, by decide, by decide +kernel, q1877, q65, by decide⟩
abbrev kX2_told : KX := (yX2_told, cX2_told, 4, some (FieldType.object "java/lang/String"), [])
theorem okX2_told : COk kX2_told 0 := ⟨by decide, by decide, by decide +kernel, q334, q65, by decide⟩
abbrev kX2_trayKind : KX := (yX2_trayKind, cX2_trayKind, 1, some FieldType.int, [])
theorem okX2_trayKind : COk kX2_trayKind 0 := ⟨by decide, by decide, by decide +kernel, q1478, q65, by decide⟩
abbrev kX3_clone : KX := (yX3_clone, cX3_clone, 2, some (FieldType.object "MustardMill$Quern"), [((0 : Nat), (7 : Nat), (8 : Nat), (22 : Nat))])
theorem okX3_clone : COk kX3_clone 0 := ⟨by decide, by decide, by decide +kernel, q687, q66, by decide⟩
abbrev kX3_heatBehind : KX := (yX3_heatBehind, cX3_heatBehind, 2, some FieldType.int, [])
theorem okX3_heatBehind : COk kX3_heatBehind 1 := ⟨by decide, by decide, by decide +kernel, q1076, q66, by decide⟩
abbrev kX3_init : KX := (yX3_init, cX3_init, 2, none, [])
theorem okX3_init : COk kX3_init 1 := ⟨by decide, by decide, by decide +kernel, q139, q66, by decide⟩
abbrev kX4_add : KX := (yX4_add, cX4_add, 3, some FieldType.int, [])
theorem okX4_add : COk kX4_add 1 := ⟨by decide, by decide, by decide +kernel, q815, q67, by decide⟩
abbrev kX4_checkRoom : KX := (yX4_checkRoom, cX4_checkRoom, 2, none, [])
theorem okX4_checkRoom : COk kX4_checkRoom 1 := ⟨by decide, by decide, by decide +kernel, q1040, q67, by decide⟩
abbrev kX4_get : KX := (yX4_get, cX4_get, 2, some (FieldType.object "MustardMill$Thing"), [])
theorem okX4_get : COk kX4_get 1 := ⟨by decide, by decide, by decide +kernel, q1140, q67, by decide⟩
abbrev kX4_init : KX := (yX4_init, cX4_init, 2, none, [])
theorem okX4_init : COk kX4_init 1 := ⟨by decide, by decide, by decide +kernel, q164, q67, by decide⟩
abbrev kX4_iterator : KX := (yX4_iterator, cX4_iterator, 1, some (FieldType.object "java/util/Iterator"), [])
theorem okX4_iterator : COk kX4_iterator 0 := ⟨by decide, by decide, by decide +kernel, q715, q67, by decide⟩
abbrev kX4_size : KX := (yX4_size, cX4_size, 1, some FieldType.int, [])
theorem okX4_size : COk kX4_size 0 := ⟨by decide, by decide, by decide +kernel, q1081, q67, by decide⟩
abbrev kX5_account : KX := (yX5_account, cX5_account, 2, some FieldType.int, [])
theorem okX5_account : COk kX5_account 1 := ⟨by decide, by decide, by decide +kernel, q2403, q76, by decide⟩
abbrev kX5_append : KX := (yX5_append, cX5_append, 5, some FieldType.int, [])
theorem okX5_append : COk kX5_append 1 := ⟨by decide, by decide, by decide +kernel, q2423, q76, by decide⟩
abbrev kX5_batchOf : KX := (yX5_batchOf, cX5_batchOf, 3, some FieldType.int, [])
theorem okX5_batchOf : COk kX5_batchOf 2 := ⟨by decide, by decide, by decide +kernel, q2234, q76, by decide⟩
abbrev kX5_becomes : KX := (yX5_becomes, cX5_becomes, 3, none, [])
theorem okX5_becomes : COk kX5_becomes 2 := ⟨by decide, by decide, by decide +kernel, q2258, q76, by decide⟩
abbrev kX5_begins : KX := (yX5_begins, cX5_begins, 2, none, [])
theorem okX5_begins : COk kX5_begins 0 := ⟨by decide, by decide, by decide +kernel, q2081, q76, by decide⟩
abbrev kX5_biteBy : KX := (yX5_biteBy, cX5_biteBy, 6, some FieldType.int, [])
theorem okX5_biteBy : COk kX5_biteBy 4 := ⟨by decide, by decide, by decide +kernel, q2207, q76, by decide⟩
abbrev kX5_biteOf : KX := (yX5_biteOf, cX5_biteOf, 5, some FieldType.int, [])
theorem okX5_biteOf : COk kX5_biteOf 4 := ⟨by decide, by decide, by decide +kernel, q2214, q76, by decide⟩
abbrev kX5_buy : KX := (yX5_buy, cX5_buy, 7, some FieldType.int, [])
theorem okX5_buy : COk kX5_buy 2 := ⟨by decide, by decide, by decide +kernel, q2155, q76, by decide⟩
abbrev kX5_carries : KX := (yX5_carries, cX5_carries, 2, some FieldType.int, [])
theorem okX5_carries : COk kX5_carries 1 := ⟨by decide, by decide, by decide +kernel, q2467, q76, by decide⟩
abbrev kX5_character : KX := (yX5_character, cX5_character, 2, some FieldType.char, [])
theorem okX5_character : COk kX5_character 1 := ⟨by decide, by decide, by decide +kernel, q2395, q76, by decide⟩
abbrev kX5_clear : KX := (yX5_clear, cX5_clear, 2, some FieldType.int, [])
theorem okX5_clear : COk kX5_clear 0 := ⟨by decide, by decide, by decide +kernel, q2151, q76, by decide⟩
abbrev kX5_copies : KX := (yX5_copies, cX5_copies, 5, none, [])
theorem okX5_copies : COk kX5_copies 4 := ⟨by decide, by decide, by decide +kernel, q2173, q76, by decide⟩
abbrev kX5_dayByDay : KX := (yX5_dayByDay, cX5_dayByDay, 8, some FieldType.int, [])
theorem okX5_dayByDay : COk kX5_dayByDay 2 := ⟨by decide, by decide, by decide +kernel, q2293, q76, by decide⟩
abbrev kX5_dress : KX := (yX5_dress, cX5_dress, 3, some FieldType.int, [])
theorem okX5_dress : COk kX5_dress 1 := ⟨by decide, by decide, by decide +kernel, q2188, q76, by decide⟩
abbrev kX5_earns : KX := (yX5_earns, cX5_earns, 2, none, [])
theorem okX5_earns : COk kX5_earns 1 := ⟨by decide, by decide, by decide +kernel, q2278, q76, by decide⟩
abbrev kX5_errorPosition : KX := (yX5_errorPosition, cX5_errorPosition, 1, some FieldType.int, [])
theorem okX5_errorPosition : COk kX5_errorPosition 0 := ⟨by decide, by decide, by decide +kernel, q2479, q76, by decide⟩
abbrev kX5_fails : KX := (yX5_fails, cX5_fails, 2, some FieldType.boolean, [])
theorem okX5_fails : COk kX5_fails 1 := ⟨by decide, by decide, by decide +kernel, q2162, q76, by decide⟩
abbrev kX5_findJar : KX := (yX5_findJar, cX5_findJar, 4, some FieldType.int, [])
theorem okX5_findJar : COk kX5_findJar 1 := ⟨by decide, by decide, by decide +kernel, q2321, q76, by decide⟩
abbrev kX5_goesBy : KX := (yX5_goesBy, cX5_goesBy, 4, some FieldType.int, [])
theorem okX5_goesBy : COk kX5_goesBy 0 := ⟨by decide, by decide, by decide +kernel, q2341, q76, by decide⟩
abbrev kX5_grind : KX := (yX5_grind, cX5_grind, 9, some FieldType.int, [])
theorem okX5_grind : COk kX5_grind 4 := ⟨by decide, by decide, by decide +kernel, q2192, q76, by decide⟩
abbrev kX5_heatBy : KX := (yX5_heatBy, cX5_heatBy, 3, some FieldType.int, [])
theorem okX5_heatBy : COk kX5_heatBy 2 := ⟨by decide, by decide, by decide +kernel, q2199, q76, by decide⟩
abbrev kX5_here : KX := (yX5_here, cX5_here, 1, some FieldType.int, [])
theorem okX5_here : COk kX5_here 0 := ⟨by decide, by decide, by decide +kernel, q2443, q76, by decide⟩
abbrev kX5_in : KX := (yX5_in, cX5_in, 3, some FieldType.boolean, [])
theorem okX5_in : COk kX5_in 3 := ⟨by decide, by decide, by decide +kernel, q2158, q76, by decide⟩
abbrev kX5_init : KX := (yX5_init, cX5_init, 1, none, [])
theorem okX5_init : COk kX5_init 0 := ⟨by decide, by decide, by decide +kernel, q2076, q76, by decide⟩
abbrev kX5_isBatch : KX := (yX5_isBatch, cX5_isBatch, 2, some FieldType.boolean, [])
theorem okX5_isBatch : COk kX5_isBatch 1 := ⟨by decide, by decide, by decide +kernel, q2222, q76, by decide⟩
abbrev kX5_isJar : KX := (yX5_isJar, cX5_isJar, 2, some FieldType.boolean, [])
theorem okX5_isJar : COk kX5_isJar 1 := ⟨by decide, by decide, by decide +kernel, q2250, q76, by decide⟩
abbrev kX5_isMix : KX := (yX5_isMix, cX5_isMix, 3, some FieldType.boolean, [])
theorem okX5_isMix : COk kX5_isMix 3 := ⟨by decide, by decide, by decide +kernel, q2195, q76, by decide⟩
abbrev kX5_isOrder : KX := (yX5_isOrder, cX5_isOrder, 2, some FieldType.boolean, [])
theorem okX5_isOrder : COk kX5_isOrder 1 := ⟨by decide, by decide, by decide +kernel, q2313, q76, by decide⟩
abbrev kX5_isQuern : KX := (yX5_isQuern, cX5_isQuern, 1, some FieldType.boolean, [])
theorem okX5_isQuern : COk kX5_isQuern 1 := ⟨by decide, by decide, by decide +kernel, q2180, q76, by decide⟩
abbrev kX5_isRipe : KX := (yX5_isRipe, cX5_isRipe, 2, some FieldType.boolean, [])
theorem okX5_isRipe : COk kX5_isRipe 1 := ⟨by decide, by decide, by decide +kernel, q2325, q76, by decide⟩
abbrev kX5_isStronger : KX := (yX5_isStronger, cX5_isStronger, 3, some FieldType.boolean, [])
theorem okX5_isStronger : COk kX5_isStronger 2 := ⟨by decide, by decide, by decide +kernel, q2301, q76, by decide⟩
abbrev kX5_isText : KX := (yX5_isText, cX5_isText, 1, some FieldType.boolean, [])
theorem okX5_isText : COk kX5_isText 0 := ⟨by decide, by decide, by decide +kernel, q2431, q76, by decide⟩
abbrev kX5_jar : KX := (yX5_jar, cX5_jar, 5, some FieldType.int, [])
theorem okX5_jar : COk kX5_jar 2 := ⟨by decide, by decide, by decide +kernel, q2238, q76, by decide⟩
abbrev kX5_jarOf : KX := (yX5_jarOf, cX5_jarOf, 3, some FieldType.int, [])
theorem okX5_jarOf : COk kX5_jarOf 2 := ⟨by decide, by decide, by decide +kernel, q2285, q76, by decide⟩
abbrev kX5_jars : KX := (yX5_jars, cX5_jars, 4, some FieldType.int, [])
theorem okX5_jars : COk kX5_jars 1 := ⟨by decide, by decide, by decide +kernel, q2329, q76, by decide⟩
abbrev kX5_keeps : KX := (yX5_keeps, cX5_keeps, 3, none, [])
theorem okX5_keeps : COk kX5_keeps 1 := ⟨by decide, by decide, by decide +kernel, q2170, q76, by decide⟩
abbrev kX5_laid : KX := (yX5_laid, cX5_laid, 3, some FieldType.int, [])
theorem okX5_laid : COk kX5_laid 0 := ⟨by decide, by decide, by decide +kernel, q2353, q76, by decide⟩
abbrev kX5_lay : KX := (yX5_lay, cX5_lay, 6, some FieldType.int, [])
theorem okX5_lay : COk kX5_lay 3 := ⟨by decide, by decide, by decide +kernel, q2357, q76, by decide⟩
abbrev kX5_laysBatch : KX := (yX5_laysBatch, cX5_laysBatch, 4, none, [])
theorem okX5_laysBatch : COk kX5_laysBatch 3 := ⟨by decide, by decide, by decide +kernel, q2203, q76, by decide⟩
abbrev kX5_laysJar : KX := (yX5_laysJar, cX5_laysJar, 4, none, [])
theorem okX5_laysJar : COk kX5_laysJar 3 := ⟨by decide, by decide, by decide +kernel, q2242, q76, by decide⟩
abbrev kX5_less : KX := (yX5_less, cX5_less, 2, some FieldType.int, [])
theorem okX5_less : COk kX5_less 2 := ⟨by decide, by decide, by decide +kernel, q2281, q76, by decide⟩
abbrev kX5_line : KX := (yX5_line, cX5_line, 2, some FieldType.int, [])
theorem okX5_line : COk kX5_line 1 := ⟨by decide, by decide, by decide +kernel, q2365, q76, by decide⟩
abbrev kX5_meanTear : KX := (yX5_meanTear, cX5_meanTear, 3, some FieldType.double, [])
theorem okX5_meanTear : COk kX5_meanTear 0 := ⟨by decide, by decide, by decide +kernel, q2415, q76, by decide⟩
abbrev kX5_missing : KX := (yX5_missing, cX5_missing, 2, some FieldType.int, [])
theorem okX5_missing : COk kX5_missing 1 := ⟨by decide, by decide, by decide +kernel, q2274, q76, by decide⟩
abbrev kX5_mix : KX := (yX5_mix, cX5_mix, 3, some FieldType.int, [])
theorem okX5_mix : COk kX5_mix 2 := ⟨by decide, by decide, by decide +kernel, q2218, q76, by decide⟩
abbrev kX5_more : KX := (yX5_more, cX5_more, 2, some FieldType.int, [])
theorem okX5_more : COk kX5_more 2 := ⟨by decide, by decide, by decide +kernel, q2210, q76, by decide⟩
abbrev kX5_numbers : KX := (yX5_numbers, cX5_numbers, 4, some FieldType.boolean, [])
theorem okX5_numbers : COk kX5_numbers 2 := ⟨by decide, by decide, by decide +kernel, q2463, q76, by decide⟩
abbrev kX5_ofBatch : KX := (yX5_ofBatch, cX5_ofBatch, 3, some FieldType.int, [])
theorem okX5_ofBatch : COk kX5_ofBatch 2 := ⟨by decide, by decide, by decide +kernel, q2226, q76, by decide⟩
abbrev kX5_ofJar : KX := (yX5_ofJar, cX5_ofJar, 3, some FieldType.int, [])
theorem okX5_ofJar : COk kX5_ofJar 2 := ⟨by decide, by decide, by decide +kernel, q2254, q76, by decide⟩
abbrev kX5_ofOrder : KX := (yX5_ofOrder, cX5_ofOrder, 3, some FieldType.int, [])
theorem okX5_ofOrder : COk kX5_ofOrder 2 := ⟨by decide, by decide, by decide +kernel, q2317, q76, by decide⟩
abbrev kX5_ofQuern : KX := (yX5_ofQuern, cX5_ofQuern, 3, some FieldType.int, [])
theorem okX5_ofQuern : COk kX5_ofQuern 2 := ⟨by decide, by decide, by decide +kernel, q2184, q76, by decide⟩
abbrev kX5_onTray : KX := (yX5_onTray, cX5_onTray, 2, some FieldType.int, [])
theorem okX5_onTray : COk kX5_onTray 1 := ⟨by decide, by decide, by decide +kernel, q2361, q76, by decide⟩
abbrev kX5_open : KX := (yX5_open, cX5_open, 2, some FieldType.int, [])
theorem okX5_open : COk kX5_open 1 := ⟨by decide, by decide, by decide +kernel, q2246, q76, by decide⟩
abbrev kX5_openOrders : KX := (yX5_openOrders, cX5_openOrders, 3, some FieldType.int, [])
theorem okX5_openOrders : COk kX5_openOrders 0 := ⟨by decide, by decide, by decide +kernel, q2411, q76, by decide⟩
abbrev kX5_order : KX := (yX5_order, cX5_order, 4, some FieldType.int, [])
theorem okX5_order : COk kX5_order 2 := ⟨by decide, by decide, by decide +kernel, q2305, q76, by decide⟩
abbrev kX5_orderHere : KX := (yX5_orderHere, cX5_orderHere, 2, some FieldType.boolean, [])
theorem okX5_orderHere : COk kX5_orderHere 0 := ⟨by decide, by decide, by decide +kernel, q2435, q76, by decide⟩
abbrev kX5_orderOf : KX := (yX5_orderOf, cX5_orderOf, 3, some FieldType.int, [])
theorem okX5_orderOf : COk kX5_orderOf 2 := ⟨by decide, by decide, by decide +kernel, q2333, q76, by decide⟩
abbrev kX5_quernOf : KX := (yX5_quernOf, cX5_quernOf, 3, some FieldType.int, [])
theorem okX5_quernOf : COk kX5_quernOf 2 := ⟨by decide, by decide, by decide +kernel, q2177, q76, by decide⟩
abbrev kX5_read : KX := (yX5_read, cX5_read, 4, some FieldType.int, [])
theorem okX5_read : COk kX5_read 0 := ⟨by decide, by decide, by decide +kernel, q2427, q76, by decide⟩
abbrev kX5_refusal : KX := (yX5_refusal, cX5_refusal, 2, some FieldType.int, [])
theorem okX5_refusal : COk kX5_refusal 1 := ⟨by decide, by decide, by decide +kernel, q2399, q76, by decide⟩
abbrev kX5_refusedItem : KX := (yX5_refusedItem, cX5_refusedItem, 1, some FieldType.int, [])
theorem okX5_refusedItem : COk kX5_refusedItem 0 := ⟨by decide, by decide, by decide +kernel, q2483, q76, by decide⟩
abbrev kX5_refuses : KX := (yX5_refuses, cX5_refuses, 4, some FieldType.int, [])
theorem okX5_refuses : COk kX5_refuses 3 := ⟨by decide, by decide, by decide +kernel, q2166, q76, by decide⟩
abbrev kX5_rest : KX := (yX5_rest, cX5_rest, 4, some FieldType.int, [])
theorem okX5_rest : COk kX5_rest 1 := ⟨by decide, by decide, by decide +kernel, q2345, q76, by decide⟩
abbrev kX5_restore : KX := (yX5_restore, cX5_restore, 1, some FieldType.int, [])
theorem okX5_restore : COk kX5_restore 0 := ⟨by decide, by decide, by decide +kernel, q2495, q76, by decide⟩
abbrev kX5_ripe : KX := (yX5_ripe, cX5_ripe, 3, some FieldType.int, [])
theorem okX5_ripe : COk kX5_ripe 0 := ⟨by decide, by decide, by decide +kernel, q2407, q76, by decide⟩
abbrev kX5_ripeIn : KX := (yX5_ripeIn, cX5_ripeIn, 2, some FieldType.int, [])
theorem okX5_ripeIn : COk kX5_ripeIn 1 := ⟨by decide, by decide, by decide +kernel, q2230, q76, by decide⟩
abbrev kX5_sell : KX := (yX5_sell, cX5_sell, 2, some FieldType.int, [])
theorem okX5_sell : COk kX5_sell 1 := ⟨by decide, by decide, by decide +kernel, q2270, q76, by decide⟩
abbrev kX5_serve : KX := (yX5_serve, cX5_serve, 3, some FieldType.int, [])
theorem okX5_serve : COk kX5_serve 1 := ⟨by decide, by decide, by decide +kernel, q2309, q76, by decide⟩
abbrev kX5_servedIn : KX := (yX5_servedIn, cX5_servedIn, 3, some FieldType.int, [])
theorem okX5_servedIn : COk kX5_servedIn 1 := ⟨by decide, by decide, by decide +kernel, q2337, q76, by decide⟩
abbrev kX5_skips : KX := (yX5_skips, cX5_skips, 2, some FieldType.boolean, [])
theorem okX5_skips : COk kX5_skips 1 := ⟨by decide, by decide, by decide +kernel, q2452, q76, by decide⟩
abbrev kX5_snapshot : KX := (yX5_snapshot, cX5_snapshot, 1, some FieldType.int, [])
theorem okX5_snapshot : COk kX5_snapshot 0 := ⟨by decide, by decide, by decide +kernel, q2491, q76, by decide⟩
abbrev kX5_soldShare : KX := (yX5_soldShare, cX5_soldShare, 1, some FieldType.float, [])
theorem okX5_soldShare : COk kX5_soldShare 0 := ⟨by decide, by decide, by decide +kernel, q2419, q76, by decide⟩
abbrev kX5_stockLine : KX := (yX5_stockLine, cX5_stockLine, 2, some FieldType.int, [])
theorem okX5_stockLine : COk kX5_stockLine 0 := ⟨by decide, by decide, by decide +kernel, q2390, q76, by decide⟩
abbrev kX5_strongest : KX := (yX5_strongest, cX5_strongest, 5, some FieldType.int, [])
theorem okX5_strongest : COk kX5_strongest 1 := ⟨by decide, by decide, by decide +kernel, q2297, q76, by decide⟩
abbrev kX5_tearAt : KX := (yX5_tearAt, cX5_tearAt, 4, some FieldType.int, [])
theorem okX5_tearAt : COk kX5_tearAt 2 := ⟨by decide, by decide, by decide +kernel, q2266, q76, by decide⟩
abbrev kX5_tearBehind : KX := (yX5_tearBehind, cX5_tearBehind, 4, some FieldType.int, [])
theorem okX5_tearBehind : COk kX5_tearBehind 3 := ⟨by decide, by decide, by decide +kernel, q2289, q76, by decide⟩
abbrev kX5_tearOf : KX := (yX5_tearOf, cX5_tearOf, 2, some FieldType.int, [])
theorem okX5_tearOf : COk kX5_tearOf 1 := ⟨by decide, by decide, by decide +kernel, q2262, q76, by decide⟩
abbrev kX5_thrown : KX := (yX5_thrown, cX5_thrown, 1, some FieldType.int, [])
theorem okX5_thrown : COk kX5_thrown 0 := ⟨by decide, by decide, by decide +kernel, q2147, q76, by decide⟩
abbrev kX5_tray : KX := (yX5_tray, cX5_tray, 4, some FieldType.int, [])
theorem okX5_tray : COk kX5_tray 1 := ⟨by decide, by decide, by decide +kernel, q2349, q76, by decide⟩
abbrev kX5_undo : KX := (yX5_undo, cX5_undo, 1, some FieldType.int, [])
theorem okX5_undo : COk kX5_undo 0 := ⟨by decide, by decide, by decide +kernel, q2487, q76, by decide⟩
abbrev kX5_word : KX := (yX5_word, cX5_word, 4, some FieldType.boolean, [])
theorem okX5_word : COk kX5_word 2 := ⟨by decide, by decide, by decide +kernel, q2448, q76, by decide⟩
abbrev kX5_wordHere : KX := (yX5_wordHere, cX5_wordHere, 1, some FieldType.int, [])
theorem okX5_wordHere : COk kX5_wordHere 0 := ⟨by decide, by decide, by decide +kernel, q2439, q76, by decide⟩
abbrev kX5_writes : KX := (yX5_writes, cX5_writes, 2, none, [])
theorem okX5_writes : COk kX5_writes 1 := ⟨by decide, by decide, by decide +kernel, q2369, q76, by decide⟩
abbrev kX5_writesNumber : KX := (yX5_writesNumber, cX5_writesNumber, 3, none, [])
theorem okX5_writesNumber : COk kX5_writesNumber 1 := ⟨by decide, by decide, by decide +kernel, q2373, q76, by decide⟩
abbrev kX5_writesText : KX := (yX5_writesText, cX5_writesText, 3, none, [])
theorem okX5_writesText : COk kX5_writesText 1 := ⟨by decide, by decide, by decide +kernel, q2378, q76, by decide⟩
abbrev kX6_init : KX := (yX6_init, cX6_init, 3, none, [])
theorem okX6_init : COk kX6_init 2 := ⟨by decide, by decide, by decide +kernel, q905, q87, by decide⟩
abbrev kX6_make : KX := (yX6_make, cX6_make, 4, some FieldType.int, [])
theorem okX6_make : COk kX6_make 1 := ⟨by decide, by decide, by decide +kernel, q917, q87, by decide⟩
abbrev kX6_numbersOf : KX := (yX6_numbersOf, cX6_numbersOf, 3, some FieldType.int, [])
theorem okX6_numbersOf : COk kX6_numbersOf 1 := ⟨by decide, by decide, by decide +kernel, q2009, q87, by decide⟩
abbrev kX7_check : KX := (yX7_check, cX7_check, 3, none, [])
theorem okX7_check : COk kX7_check 3 := ⟨by decide, by decide, by decide +kernel, q1043, q94, by decide⟩
abbrev kX7_init : KX := (yX7_init, cX7_init, 3, none, [])
theorem okX7_init : COk kX7_init 2 := ⟨by decide, by decide, by decide +kernel, q1055, q94, by decide⟩
abbrev kX8_become : KX := (yX8_become, cX8_become, 2, none, [])
theorem okX8_become : COk kX8_become 1 := ⟨by decide, by decide, by decide +kernel, q1187, q95, by decide⟩
abbrev kX8_clone : KX := (yX8_clone, cX8_clone, 2, some (FieldType.object "MustardMill$Thing"), [((0 : Nat), (7 : Nat), (8 : Nat), (20 : Nat))])
theorem okX8_clone : COk kX8_clone 0 := ⟨by decide, by decide, by decide +kernel, q804, q95, by decide⟩
abbrev kX8_init : KX := (yX8_init, cX8_init, 2, none, [])
theorem okX8_init : COk kX8_init 1 := ⟨by decide, by decide, by decide +kernel, q1091, q95, by decide⟩
abbrev kX8_number : KX := (yX8_number, cX8_number, 1, some FieldType.int, [])
theorem okX8_number : COk kX8_number 0 := ⟨by decide, by decide, by decide +kernel, q1207, q95, by decide⟩
abbrev kX8_state : KX := (yX8_state, cX8_state, 1, some FieldType.int, [])
theorem okX8_state : COk kX8_state 0 := ⟨by decide, by decide, by decide +kernel, q1171, q95, by decide⟩
abbrev kX9_bite : KX := (yX9_bite, cX9_bite, 1, some FieldType.int, [])
theorem okX9_bite : COk kX9_bite 0 := ⟨by decide, by decide, by decide +kernel, q1211, q96, by decide⟩
abbrev kX9_clone : KX := (yX9_clone, cX9_clone, 1, some (FieldType.object "MustardMill$Batch"), [])
theorem okX9_clone : COk kX9_clone 0 := ⟨by decide, by decide, by decide +kernel, q800, q96, by decide⟩
abbrev kX9_init : KX := (yX9_init, cX9_init, 5, none, [])
theorem okX9_init : COk kX9_init 4 := ⟨by decide, by decide, by decide +kernel, q1088, q96, by decide⟩
abbrev kX9_ripeDays : KX := (yX9_ripeDays, cX9_ripeDays, 1, some FieldType.int, [])
theorem okX9_ripeDays : COk kX9_ripeDays 0 := ⟨by decide, by decide, by decide +kernel, q1191, q96, by decide⟩
