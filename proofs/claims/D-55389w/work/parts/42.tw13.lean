/-! THE REFERENCE, thirteenth part: its constructor; printed by tools/tw13.py -/
set_option maxRecDepth 100000
/-- an array is made at a + k, and kept in the field f -/
def stp (h : AH) (a k kd n f : Nat) : AH := uFR (nArr h kd n) f a (some (a + k))
section STP
variable {h : AH} {a k kd n f b : Nat}
theorem stp_Sz (hz : hSz h = a + k) : hSz (stp h a k kd n f) = a + (k + 1) := by show hSz h + 1 = _; omega
theorem stp_Kd (hz : hSz h = a + k) : hKd (stp h a k kd n f) b = if b = a + k then kd else hKd h b := by rw [← hz]; rfl
theorem stp_Ln (hz : hSz h = a + k) : hLn (stp h a k kd n f) b = if b = a + k then n else hLn h b := by rw [← hz]; rfl
theorem stp_FR (_hz : hSz h = a + k) {q : Nat} : hFR (stp h a k kd n f) q a = if q = f then some (a + k) else hFR h q a := by
  show (if q = f ∧ a = a then some (a + k) else hFR h q a) = _
  by_cases e : q = f
  · rw [if_pos ⟨e, rfl⟩, if_pos e]
  · rw [if_neg (fun z => e z.1), if_neg e]
theorem stp_FI (_hz : hSz h = a + k) {q : Nat} : hFI (stp h a k kd n f) q b = hFI h q b := rfl
theorem stp_EI (hz : hSz h = a + k) {j : Nat} : hEI (stp h a k kd n f) b j = if b = a + k then 0 else hEI h b j := by
  show hEI (nArr h kd n) b j = _
  rw [nArr_hEI, hz]
theorem stp_Eqa (hz : hSz h = a + k) (hb : b < a) : Eqa (stp h a k kd n f) h b := (Eqa.uFR (by omega)).tr (Eqa.nArr (by omega))
end STP
def mk1 (h : AH) (a : Nat) : AH := stp h a 1 201 221 525
theorem mk1_z {h : AH} {a : Nat} (hz : hSz h = a + 1) : hSz (mk1 h a) = a + 2 := stp_Sz hz
def mk2 (h : AH) (a : Nat) : AH := stp (mk1 h a) a 2 201 1768 526
theorem mk2_z {h : AH} {a : Nat} (hz : hSz h = a + 1) : hSz (mk2 h a) = a + 3 := stp_Sz (mk1_z hz)
def mk3 (h : AH) (a : Nat) : AH := stp (mk2 h a) a 3 201 221 527
theorem mk3_z {h : AH} {a : Nat} (hz : hSz h = a + 1) : hSz (mk3 h a) = a + 4 := stp_Sz (mk2_z hz)
def mk4 (h : AH) (a : Nat) : AH := stp (mk3 h a) a 4 201 221 528
theorem mk4_z {h : AH} {a : Nat} (hz : hSz h = a + 1) : hSz (mk4 h a) = a + 5 := stp_Sz (mk3_z hz)
def mk5 (h : AH) (a : Nat) : AH := stp (mk4 h a) a 5 201 221 529
theorem mk5_z {h : AH} {a : Nat} (hz : hSz h = a + 1) : hSz (mk5 h a) = a + 6 := stp_Sz (mk4_z hz)
def mk6 (h : AH) (a : Nat) : AH := stp (mk5 h a) a 6 201 60 530
theorem mk6_z {h : AH} {a : Nat} (hz : hSz h = a + 1) : hSz (mk6 h a) = a + 7 := stp_Sz (mk5_z hz)
def mk7 (h : AH) (a : Nat) : AH := uFI (mk6 h a) 38 a (-1)
theorem mk7_z {h : AH} {a : Nat} (hz : hSz h = a + 1) : hSz (mk7 h a) = a + 7 := by
  show hSz (uFI (mk6 h a) 38 a (-1)) = _
  rw [uFI_hSz]
  exact mk6_z hz
def mk8 (h : AH) (a : Nat) : AH := uFI (mk7 h a) 39 a (-1)
theorem mk8_z {h : AH} {a : Nat} (hz : hSz h = a + 1) : hSz (mk8 h a) = a + 7 := by
  show hSz (uFI (mk7 h a) 39 a (-1)) = _
  rw [uFI_hSz]
  exact mk7_z hz
def mk9 (h : AH) (a : Nat) : AH := stp (mk8 h a) a 7 203 60 531
theorem mk9_z {h : AH} {a : Nat} (hz : hSz h = a + 1) : hSz (mk9 h a) = a + 8 := stp_Sz (mk8_z hz)
def mk10 (h : AH) (a : Nat) : AH := stp (mk9 h a) a 8 201 100 532
theorem mk10_z {h : AH} {a : Nat} (hz : hSz h = a + 1) : hSz (mk10 h a) = a + 9 := stp_Sz (mk9_z hz)
theorem mkK1 {h : AH} {a : Nat} (hz : hSz h = a + 1) : hKd (mk10 h a) (a + 1) = 201 := by
  show hKd (stp (mk9 h a) a 8 201 100 532) (a + 1) = _
  rw [stp_Kd (mk9_z hz), if_neg (by omega)]
  show hKd (stp (mk8 h a) a 7 203 60 531) (a + 1) = _
  rw [stp_Kd (mk8_z hz), if_neg (by omega)]
  show hKd (uFI (mk7 h a) 39 a (-1)) (a + 1) = _
  rw [uFI_hKd]
  show hKd (uFI (mk6 h a) 38 a (-1)) (a + 1) = _
  rw [uFI_hKd]
  show hKd (stp (mk5 h a) a 6 201 60 530) (a + 1) = _
  rw [stp_Kd (mk5_z hz), if_neg (by omega)]
  show hKd (stp (mk4 h a) a 5 201 221 529) (a + 1) = _
  rw [stp_Kd (mk4_z hz), if_neg (by omega)]
  show hKd (stp (mk3 h a) a 4 201 221 528) (a + 1) = _
  rw [stp_Kd (mk3_z hz), if_neg (by omega)]
  show hKd (stp (mk2 h a) a 3 201 221 527) (a + 1) = _
  rw [stp_Kd (mk2_z hz), if_neg (by omega)]
  show hKd (stp (mk1 h a) a 2 201 1768 526) (a + 1) = _
  rw [stp_Kd (mk1_z hz), if_neg (by omega)]
  show hKd (stp h a 1 201 221 525) (a + 1) = _
  rw [stp_Kd hz, if_pos rfl]
theorem mkL1 {h : AH} {a : Nat} (hz : hSz h = a + 1) : hLn (mk10 h a) (a + 1) = 221 := by
  show hLn (stp (mk9 h a) a 8 201 100 532) (a + 1) = _
  rw [stp_Ln (mk9_z hz), if_neg (by omega)]
  show hLn (stp (mk8 h a) a 7 203 60 531) (a + 1) = _
  rw [stp_Ln (mk8_z hz), if_neg (by omega)]
  show hLn (uFI (mk7 h a) 39 a (-1)) (a + 1) = _
  rw [uFI_hLn]
  show hLn (uFI (mk6 h a) 38 a (-1)) (a + 1) = _
  rw [uFI_hLn]
  show hLn (stp (mk5 h a) a 6 201 60 530) (a + 1) = _
  rw [stp_Ln (mk5_z hz), if_neg (by omega)]
  show hLn (stp (mk4 h a) a 5 201 221 529) (a + 1) = _
  rw [stp_Ln (mk4_z hz), if_neg (by omega)]
  show hLn (stp (mk3 h a) a 4 201 221 528) (a + 1) = _
  rw [stp_Ln (mk3_z hz), if_neg (by omega)]
  show hLn (stp (mk2 h a) a 3 201 221 527) (a + 1) = _
  rw [stp_Ln (mk2_z hz), if_neg (by omega)]
  show hLn (stp (mk1 h a) a 2 201 1768 526) (a + 1) = _
  rw [stp_Ln (mk1_z hz), if_neg (by omega)]
  show hLn (stp h a 1 201 221 525) (a + 1) = _
  rw [stp_Ln hz, if_pos rfl]
theorem mkF1 {h : AH} {a : Nat} (hz : hSz h = a + 1) : hFR (mk10 h a) 525 a = some (a + 1) := by
  show hFR (stp (mk9 h a) a 8 201 100 532) 525 a = _
  rw [stp_FR (mk9_z hz), if_neg (by decide)]
  show hFR (stp (mk8 h a) a 7 203 60 531) 525 a = _
  rw [stp_FR (mk8_z hz), if_neg (by decide)]
  show hFR (uFI (mk7 h a) 39 a (-1)) 525 a = _
  rw [uFI_hFR]
  show hFR (uFI (mk6 h a) 38 a (-1)) 525 a = _
  rw [uFI_hFR]
  show hFR (stp (mk5 h a) a 6 201 60 530) 525 a = _
  rw [stp_FR (mk5_z hz), if_neg (by decide)]
  show hFR (stp (mk4 h a) a 5 201 221 529) 525 a = _
  rw [stp_FR (mk4_z hz), if_neg (by decide)]
  show hFR (stp (mk3 h a) a 4 201 221 528) 525 a = _
  rw [stp_FR (mk3_z hz), if_neg (by decide)]
  show hFR (stp (mk2 h a) a 3 201 221 527) 525 a = _
  rw [stp_FR (mk2_z hz), if_neg (by decide)]
  show hFR (stp (mk1 h a) a 2 201 1768 526) 525 a = _
  rw [stp_FR (mk1_z hz), if_neg (by decide)]
  show hFR (stp h a 1 201 221 525) 525 a = _
  rw [stp_FR hz, if_pos rfl]
theorem mkE1 {h : AH} {a : Nat} (hz : hSz h = a + 1) : hEI (mk10 h a) (a + 1) = fun _ => 0 := by
  funext j
  show hEI (stp (mk9 h a) a 8 201 100 532) (a + 1) j = _
  rw [stp_EI (mk9_z hz), if_neg (by omega)]
  show hEI (stp (mk8 h a) a 7 203 60 531) (a + 1) j = _
  rw [stp_EI (mk8_z hz), if_neg (by omega)]
  show hEI (uFI (mk7 h a) 39 a (-1)) (a + 1) j = _
  rw [uFI_hEI]
  show hEI (uFI (mk6 h a) 38 a (-1)) (a + 1) j = _
  rw [uFI_hEI]
  show hEI (stp (mk5 h a) a 6 201 60 530) (a + 1) j = _
  rw [stp_EI (mk5_z hz), if_neg (by omega)]
  show hEI (stp (mk4 h a) a 5 201 221 529) (a + 1) j = _
  rw [stp_EI (mk4_z hz), if_neg (by omega)]
  show hEI (stp (mk3 h a) a 4 201 221 528) (a + 1) j = _
  rw [stp_EI (mk3_z hz), if_neg (by omega)]
  show hEI (stp (mk2 h a) a 3 201 221 527) (a + 1) j = _
  rw [stp_EI (mk2_z hz), if_neg (by omega)]
  show hEI (stp (mk1 h a) a 2 201 1768 526) (a + 1) j = _
  rw [stp_EI (mk1_z hz), if_neg (by omega)]
  show hEI (stp h a 1 201 221 525) (a + 1) j = _
  rw [stp_EI hz, if_pos rfl]
theorem mkK2 {h : AH} {a : Nat} (hz : hSz h = a + 1) : hKd (mk10 h a) (a + 2) = 201 := by
  show hKd (stp (mk9 h a) a 8 201 100 532) (a + 2) = _
  rw [stp_Kd (mk9_z hz), if_neg (by omega)]
  show hKd (stp (mk8 h a) a 7 203 60 531) (a + 2) = _
  rw [stp_Kd (mk8_z hz), if_neg (by omega)]
  show hKd (uFI (mk7 h a) 39 a (-1)) (a + 2) = _
  rw [uFI_hKd]
  show hKd (uFI (mk6 h a) 38 a (-1)) (a + 2) = _
  rw [uFI_hKd]
  show hKd (stp (mk5 h a) a 6 201 60 530) (a + 2) = _
  rw [stp_Kd (mk5_z hz), if_neg (by omega)]
  show hKd (stp (mk4 h a) a 5 201 221 529) (a + 2) = _
  rw [stp_Kd (mk4_z hz), if_neg (by omega)]
  show hKd (stp (mk3 h a) a 4 201 221 528) (a + 2) = _
  rw [stp_Kd (mk3_z hz), if_neg (by omega)]
  show hKd (stp (mk2 h a) a 3 201 221 527) (a + 2) = _
  rw [stp_Kd (mk2_z hz), if_neg (by omega)]
  show hKd (stp (mk1 h a) a 2 201 1768 526) (a + 2) = _
  rw [stp_Kd (mk1_z hz), if_pos rfl]
theorem mkL2 {h : AH} {a : Nat} (hz : hSz h = a + 1) : hLn (mk10 h a) (a + 2) = 1768 := by
  show hLn (stp (mk9 h a) a 8 201 100 532) (a + 2) = _
  rw [stp_Ln (mk9_z hz), if_neg (by omega)]
  show hLn (stp (mk8 h a) a 7 203 60 531) (a + 2) = _
  rw [stp_Ln (mk8_z hz), if_neg (by omega)]
  show hLn (uFI (mk7 h a) 39 a (-1)) (a + 2) = _
  rw [uFI_hLn]
  show hLn (uFI (mk6 h a) 38 a (-1)) (a + 2) = _
  rw [uFI_hLn]
  show hLn (stp (mk5 h a) a 6 201 60 530) (a + 2) = _
  rw [stp_Ln (mk5_z hz), if_neg (by omega)]
  show hLn (stp (mk4 h a) a 5 201 221 529) (a + 2) = _
  rw [stp_Ln (mk4_z hz), if_neg (by omega)]
  show hLn (stp (mk3 h a) a 4 201 221 528) (a + 2) = _
  rw [stp_Ln (mk3_z hz), if_neg (by omega)]
  show hLn (stp (mk2 h a) a 3 201 221 527) (a + 2) = _
  rw [stp_Ln (mk2_z hz), if_neg (by omega)]
  show hLn (stp (mk1 h a) a 2 201 1768 526) (a + 2) = _
  rw [stp_Ln (mk1_z hz), if_pos rfl]
theorem mkF2 {h : AH} {a : Nat} (hz : hSz h = a + 1) : hFR (mk10 h a) 526 a = some (a + 2) := by
  show hFR (stp (mk9 h a) a 8 201 100 532) 526 a = _
  rw [stp_FR (mk9_z hz), if_neg (by decide)]
  show hFR (stp (mk8 h a) a 7 203 60 531) 526 a = _
  rw [stp_FR (mk8_z hz), if_neg (by decide)]
  show hFR (uFI (mk7 h a) 39 a (-1)) 526 a = _
  rw [uFI_hFR]
  show hFR (uFI (mk6 h a) 38 a (-1)) 526 a = _
  rw [uFI_hFR]
  show hFR (stp (mk5 h a) a 6 201 60 530) 526 a = _
  rw [stp_FR (mk5_z hz), if_neg (by decide)]
  show hFR (stp (mk4 h a) a 5 201 221 529) 526 a = _
  rw [stp_FR (mk4_z hz), if_neg (by decide)]
  show hFR (stp (mk3 h a) a 4 201 221 528) 526 a = _
  rw [stp_FR (mk3_z hz), if_neg (by decide)]
  show hFR (stp (mk2 h a) a 3 201 221 527) 526 a = _
  rw [stp_FR (mk2_z hz), if_neg (by decide)]
  show hFR (stp (mk1 h a) a 2 201 1768 526) 526 a = _
  rw [stp_FR (mk1_z hz), if_pos rfl]
theorem mkE2 {h : AH} {a : Nat} (hz : hSz h = a + 1) : hEI (mk10 h a) (a + 2) = fun _ => 0 := by
  funext j
  show hEI (stp (mk9 h a) a 8 201 100 532) (a + 2) j = _
  rw [stp_EI (mk9_z hz), if_neg (by omega)]
  show hEI (stp (mk8 h a) a 7 203 60 531) (a + 2) j = _
  rw [stp_EI (mk8_z hz), if_neg (by omega)]
  show hEI (uFI (mk7 h a) 39 a (-1)) (a + 2) j = _
  rw [uFI_hEI]
  show hEI (uFI (mk6 h a) 38 a (-1)) (a + 2) j = _
  rw [uFI_hEI]
  show hEI (stp (mk5 h a) a 6 201 60 530) (a + 2) j = _
  rw [stp_EI (mk5_z hz), if_neg (by omega)]
  show hEI (stp (mk4 h a) a 5 201 221 529) (a + 2) j = _
  rw [stp_EI (mk4_z hz), if_neg (by omega)]
  show hEI (stp (mk3 h a) a 4 201 221 528) (a + 2) j = _
  rw [stp_EI (mk3_z hz), if_neg (by omega)]
  show hEI (stp (mk2 h a) a 3 201 221 527) (a + 2) j = _
  rw [stp_EI (mk2_z hz), if_neg (by omega)]
  show hEI (stp (mk1 h a) a 2 201 1768 526) (a + 2) j = _
  rw [stp_EI (mk1_z hz), if_pos rfl]
theorem mkK3 {h : AH} {a : Nat} (hz : hSz h = a + 1) : hKd (mk10 h a) (a + 3) = 201 := by
  show hKd (stp (mk9 h a) a 8 201 100 532) (a + 3) = _
  rw [stp_Kd (mk9_z hz), if_neg (by omega)]
  show hKd (stp (mk8 h a) a 7 203 60 531) (a + 3) = _
  rw [stp_Kd (mk8_z hz), if_neg (by omega)]
  show hKd (uFI (mk7 h a) 39 a (-1)) (a + 3) = _
  rw [uFI_hKd]
  show hKd (uFI (mk6 h a) 38 a (-1)) (a + 3) = _
  rw [uFI_hKd]
  show hKd (stp (mk5 h a) a 6 201 60 530) (a + 3) = _
  rw [stp_Kd (mk5_z hz), if_neg (by omega)]
  show hKd (stp (mk4 h a) a 5 201 221 529) (a + 3) = _
  rw [stp_Kd (mk4_z hz), if_neg (by omega)]
  show hKd (stp (mk3 h a) a 4 201 221 528) (a + 3) = _
  rw [stp_Kd (mk3_z hz), if_neg (by omega)]
  show hKd (stp (mk2 h a) a 3 201 221 527) (a + 3) = _
  rw [stp_Kd (mk2_z hz), if_pos rfl]
theorem mkL3 {h : AH} {a : Nat} (hz : hSz h = a + 1) : hLn (mk10 h a) (a + 3) = 221 := by
  show hLn (stp (mk9 h a) a 8 201 100 532) (a + 3) = _
  rw [stp_Ln (mk9_z hz), if_neg (by omega)]
  show hLn (stp (mk8 h a) a 7 203 60 531) (a + 3) = _
  rw [stp_Ln (mk8_z hz), if_neg (by omega)]
  show hLn (uFI (mk7 h a) 39 a (-1)) (a + 3) = _
  rw [uFI_hLn]
  show hLn (uFI (mk6 h a) 38 a (-1)) (a + 3) = _
  rw [uFI_hLn]
  show hLn (stp (mk5 h a) a 6 201 60 530) (a + 3) = _
  rw [stp_Ln (mk5_z hz), if_neg (by omega)]
  show hLn (stp (mk4 h a) a 5 201 221 529) (a + 3) = _
  rw [stp_Ln (mk4_z hz), if_neg (by omega)]
  show hLn (stp (mk3 h a) a 4 201 221 528) (a + 3) = _
  rw [stp_Ln (mk3_z hz), if_neg (by omega)]
  show hLn (stp (mk2 h a) a 3 201 221 527) (a + 3) = _
  rw [stp_Ln (mk2_z hz), if_pos rfl]
theorem mkF3 {h : AH} {a : Nat} (hz : hSz h = a + 1) : hFR (mk10 h a) 527 a = some (a + 3) := by
  show hFR (stp (mk9 h a) a 8 201 100 532) 527 a = _
  rw [stp_FR (mk9_z hz), if_neg (by decide)]
  show hFR (stp (mk8 h a) a 7 203 60 531) 527 a = _
  rw [stp_FR (mk8_z hz), if_neg (by decide)]
  show hFR (uFI (mk7 h a) 39 a (-1)) 527 a = _
  rw [uFI_hFR]
  show hFR (uFI (mk6 h a) 38 a (-1)) 527 a = _
  rw [uFI_hFR]
  show hFR (stp (mk5 h a) a 6 201 60 530) 527 a = _
  rw [stp_FR (mk5_z hz), if_neg (by decide)]
  show hFR (stp (mk4 h a) a 5 201 221 529) 527 a = _
  rw [stp_FR (mk4_z hz), if_neg (by decide)]
  show hFR (stp (mk3 h a) a 4 201 221 528) 527 a = _
  rw [stp_FR (mk3_z hz), if_neg (by decide)]
  show hFR (stp (mk2 h a) a 3 201 221 527) 527 a = _
  rw [stp_FR (mk2_z hz), if_pos rfl]
theorem mkE3 {h : AH} {a : Nat} (hz : hSz h = a + 1) : hEI (mk10 h a) (a + 3) = fun _ => 0 := by
  funext j
  show hEI (stp (mk9 h a) a 8 201 100 532) (a + 3) j = _
  rw [stp_EI (mk9_z hz), if_neg (by omega)]
  show hEI (stp (mk8 h a) a 7 203 60 531) (a + 3) j = _
  rw [stp_EI (mk8_z hz), if_neg (by omega)]
  show hEI (uFI (mk7 h a) 39 a (-1)) (a + 3) j = _
  rw [uFI_hEI]
  show hEI (uFI (mk6 h a) 38 a (-1)) (a + 3) j = _
  rw [uFI_hEI]
  show hEI (stp (mk5 h a) a 6 201 60 530) (a + 3) j = _
  rw [stp_EI (mk5_z hz), if_neg (by omega)]
  show hEI (stp (mk4 h a) a 5 201 221 529) (a + 3) j = _
  rw [stp_EI (mk4_z hz), if_neg (by omega)]
  show hEI (stp (mk3 h a) a 4 201 221 528) (a + 3) j = _
  rw [stp_EI (mk3_z hz), if_neg (by omega)]
  show hEI (stp (mk2 h a) a 3 201 221 527) (a + 3) j = _
  rw [stp_EI (mk2_z hz), if_pos rfl]
theorem mkK4 {h : AH} {a : Nat} (hz : hSz h = a + 1) : hKd (mk10 h a) (a + 4) = 201 := by
  show hKd (stp (mk9 h a) a 8 201 100 532) (a + 4) = _
  rw [stp_Kd (mk9_z hz), if_neg (by omega)]
  show hKd (stp (mk8 h a) a 7 203 60 531) (a + 4) = _
  rw [stp_Kd (mk8_z hz), if_neg (by omega)]
  show hKd (uFI (mk7 h a) 39 a (-1)) (a + 4) = _
  rw [uFI_hKd]
  show hKd (uFI (mk6 h a) 38 a (-1)) (a + 4) = _
  rw [uFI_hKd]
  show hKd (stp (mk5 h a) a 6 201 60 530) (a + 4) = _
  rw [stp_Kd (mk5_z hz), if_neg (by omega)]
  show hKd (stp (mk4 h a) a 5 201 221 529) (a + 4) = _
  rw [stp_Kd (mk4_z hz), if_neg (by omega)]
  show hKd (stp (mk3 h a) a 4 201 221 528) (a + 4) = _
  rw [stp_Kd (mk3_z hz), if_pos rfl]
theorem mkL4 {h : AH} {a : Nat} (hz : hSz h = a + 1) : hLn (mk10 h a) (a + 4) = 221 := by
  show hLn (stp (mk9 h a) a 8 201 100 532) (a + 4) = _
  rw [stp_Ln (mk9_z hz), if_neg (by omega)]
  show hLn (stp (mk8 h a) a 7 203 60 531) (a + 4) = _
  rw [stp_Ln (mk8_z hz), if_neg (by omega)]
  show hLn (uFI (mk7 h a) 39 a (-1)) (a + 4) = _
  rw [uFI_hLn]
  show hLn (uFI (mk6 h a) 38 a (-1)) (a + 4) = _
  rw [uFI_hLn]
  show hLn (stp (mk5 h a) a 6 201 60 530) (a + 4) = _
  rw [stp_Ln (mk5_z hz), if_neg (by omega)]
  show hLn (stp (mk4 h a) a 5 201 221 529) (a + 4) = _
  rw [stp_Ln (mk4_z hz), if_neg (by omega)]
  show hLn (stp (mk3 h a) a 4 201 221 528) (a + 4) = _
  rw [stp_Ln (mk3_z hz), if_pos rfl]
theorem mkF4 {h : AH} {a : Nat} (hz : hSz h = a + 1) : hFR (mk10 h a) 528 a = some (a + 4) := by
  show hFR (stp (mk9 h a) a 8 201 100 532) 528 a = _
  rw [stp_FR (mk9_z hz), if_neg (by decide)]
  show hFR (stp (mk8 h a) a 7 203 60 531) 528 a = _
  rw [stp_FR (mk8_z hz), if_neg (by decide)]
  show hFR (uFI (mk7 h a) 39 a (-1)) 528 a = _
  rw [uFI_hFR]
  show hFR (uFI (mk6 h a) 38 a (-1)) 528 a = _
  rw [uFI_hFR]
  show hFR (stp (mk5 h a) a 6 201 60 530) 528 a = _
  rw [stp_FR (mk5_z hz), if_neg (by decide)]
  show hFR (stp (mk4 h a) a 5 201 221 529) 528 a = _
  rw [stp_FR (mk4_z hz), if_neg (by decide)]
  show hFR (stp (mk3 h a) a 4 201 221 528) 528 a = _
  rw [stp_FR (mk3_z hz), if_pos rfl]
theorem mkE4 {h : AH} {a : Nat} (hz : hSz h = a + 1) : hEI (mk10 h a) (a + 4) = fun _ => 0 := by
  funext j
  show hEI (stp (mk9 h a) a 8 201 100 532) (a + 4) j = _
  rw [stp_EI (mk9_z hz), if_neg (by omega)]
  show hEI (stp (mk8 h a) a 7 203 60 531) (a + 4) j = _
  rw [stp_EI (mk8_z hz), if_neg (by omega)]
  show hEI (uFI (mk7 h a) 39 a (-1)) (a + 4) j = _
  rw [uFI_hEI]
  show hEI (uFI (mk6 h a) 38 a (-1)) (a + 4) j = _
  rw [uFI_hEI]
  show hEI (stp (mk5 h a) a 6 201 60 530) (a + 4) j = _
  rw [stp_EI (mk5_z hz), if_neg (by omega)]
  show hEI (stp (mk4 h a) a 5 201 221 529) (a + 4) j = _
  rw [stp_EI (mk4_z hz), if_neg (by omega)]
  show hEI (stp (mk3 h a) a 4 201 221 528) (a + 4) j = _
  rw [stp_EI (mk3_z hz), if_pos rfl]
theorem mkK5 {h : AH} {a : Nat} (hz : hSz h = a + 1) : hKd (mk10 h a) (a + 5) = 201 := by
  show hKd (stp (mk9 h a) a 8 201 100 532) (a + 5) = _
  rw [stp_Kd (mk9_z hz), if_neg (by omega)]
  show hKd (stp (mk8 h a) a 7 203 60 531) (a + 5) = _
  rw [stp_Kd (mk8_z hz), if_neg (by omega)]
  show hKd (uFI (mk7 h a) 39 a (-1)) (a + 5) = _
  rw [uFI_hKd]
  show hKd (uFI (mk6 h a) 38 a (-1)) (a + 5) = _
  rw [uFI_hKd]
  show hKd (stp (mk5 h a) a 6 201 60 530) (a + 5) = _
  rw [stp_Kd (mk5_z hz), if_neg (by omega)]
  show hKd (stp (mk4 h a) a 5 201 221 529) (a + 5) = _
  rw [stp_Kd (mk4_z hz), if_pos rfl]
theorem mkL5 {h : AH} {a : Nat} (hz : hSz h = a + 1) : hLn (mk10 h a) (a + 5) = 221 := by
  show hLn (stp (mk9 h a) a 8 201 100 532) (a + 5) = _
  rw [stp_Ln (mk9_z hz), if_neg (by omega)]
  show hLn (stp (mk8 h a) a 7 203 60 531) (a + 5) = _
  rw [stp_Ln (mk8_z hz), if_neg (by omega)]
  show hLn (uFI (mk7 h a) 39 a (-1)) (a + 5) = _
  rw [uFI_hLn]
  show hLn (uFI (mk6 h a) 38 a (-1)) (a + 5) = _
  rw [uFI_hLn]
  show hLn (stp (mk5 h a) a 6 201 60 530) (a + 5) = _
  rw [stp_Ln (mk5_z hz), if_neg (by omega)]
  show hLn (stp (mk4 h a) a 5 201 221 529) (a + 5) = _
  rw [stp_Ln (mk4_z hz), if_pos rfl]
theorem mkF5 {h : AH} {a : Nat} (hz : hSz h = a + 1) : hFR (mk10 h a) 529 a = some (a + 5) := by
  show hFR (stp (mk9 h a) a 8 201 100 532) 529 a = _
  rw [stp_FR (mk9_z hz), if_neg (by decide)]
  show hFR (stp (mk8 h a) a 7 203 60 531) 529 a = _
  rw [stp_FR (mk8_z hz), if_neg (by decide)]
  show hFR (uFI (mk7 h a) 39 a (-1)) 529 a = _
  rw [uFI_hFR]
  show hFR (uFI (mk6 h a) 38 a (-1)) 529 a = _
  rw [uFI_hFR]
  show hFR (stp (mk5 h a) a 6 201 60 530) 529 a = _
  rw [stp_FR (mk5_z hz), if_neg (by decide)]
  show hFR (stp (mk4 h a) a 5 201 221 529) 529 a = _
  rw [stp_FR (mk4_z hz), if_pos rfl]
theorem mkE5 {h : AH} {a : Nat} (hz : hSz h = a + 1) : hEI (mk10 h a) (a + 5) = fun _ => 0 := by
  funext j
  show hEI (stp (mk9 h a) a 8 201 100 532) (a + 5) j = _
  rw [stp_EI (mk9_z hz), if_neg (by omega)]
  show hEI (stp (mk8 h a) a 7 203 60 531) (a + 5) j = _
  rw [stp_EI (mk8_z hz), if_neg (by omega)]
  show hEI (uFI (mk7 h a) 39 a (-1)) (a + 5) j = _
  rw [uFI_hEI]
  show hEI (uFI (mk6 h a) 38 a (-1)) (a + 5) j = _
  rw [uFI_hEI]
  show hEI (stp (mk5 h a) a 6 201 60 530) (a + 5) j = _
  rw [stp_EI (mk5_z hz), if_neg (by omega)]
  show hEI (stp (mk4 h a) a 5 201 221 529) (a + 5) j = _
  rw [stp_EI (mk4_z hz), if_pos rfl]
theorem mkK6 {h : AH} {a : Nat} (hz : hSz h = a + 1) : hKd (mk10 h a) (a + 6) = 201 := by
  show hKd (stp (mk9 h a) a 8 201 100 532) (a + 6) = _
  rw [stp_Kd (mk9_z hz), if_neg (by omega)]
  show hKd (stp (mk8 h a) a 7 203 60 531) (a + 6) = _
  rw [stp_Kd (mk8_z hz), if_neg (by omega)]
  show hKd (uFI (mk7 h a) 39 a (-1)) (a + 6) = _
  rw [uFI_hKd]
  show hKd (uFI (mk6 h a) 38 a (-1)) (a + 6) = _
  rw [uFI_hKd]
  show hKd (stp (mk5 h a) a 6 201 60 530) (a + 6) = _
  rw [stp_Kd (mk5_z hz), if_pos rfl]
theorem mkL6 {h : AH} {a : Nat} (hz : hSz h = a + 1) : hLn (mk10 h a) (a + 6) = 60 := by
  show hLn (stp (mk9 h a) a 8 201 100 532) (a + 6) = _
  rw [stp_Ln (mk9_z hz), if_neg (by omega)]
  show hLn (stp (mk8 h a) a 7 203 60 531) (a + 6) = _
  rw [stp_Ln (mk8_z hz), if_neg (by omega)]
  show hLn (uFI (mk7 h a) 39 a (-1)) (a + 6) = _
  rw [uFI_hLn]
  show hLn (uFI (mk6 h a) 38 a (-1)) (a + 6) = _
  rw [uFI_hLn]
  show hLn (stp (mk5 h a) a 6 201 60 530) (a + 6) = _
  rw [stp_Ln (mk5_z hz), if_pos rfl]
theorem mkF6 {h : AH} {a : Nat} (hz : hSz h = a + 1) : hFR (mk10 h a) 530 a = some (a + 6) := by
  show hFR (stp (mk9 h a) a 8 201 100 532) 530 a = _
  rw [stp_FR (mk9_z hz), if_neg (by decide)]
  show hFR (stp (mk8 h a) a 7 203 60 531) 530 a = _
  rw [stp_FR (mk8_z hz), if_neg (by decide)]
  show hFR (uFI (mk7 h a) 39 a (-1)) 530 a = _
  rw [uFI_hFR]
  show hFR (uFI (mk6 h a) 38 a (-1)) 530 a = _
  rw [uFI_hFR]
  show hFR (stp (mk5 h a) a 6 201 60 530) 530 a = _
  rw [stp_FR (mk5_z hz), if_pos rfl]
theorem mkE6 {h : AH} {a : Nat} (hz : hSz h = a + 1) : hEI (mk10 h a) (a + 6) = fun _ => 0 := by
  funext j
  show hEI (stp (mk9 h a) a 8 201 100 532) (a + 6) j = _
  rw [stp_EI (mk9_z hz), if_neg (by omega)]
  show hEI (stp (mk8 h a) a 7 203 60 531) (a + 6) j = _
  rw [stp_EI (mk8_z hz), if_neg (by omega)]
  show hEI (uFI (mk7 h a) 39 a (-1)) (a + 6) j = _
  rw [uFI_hEI]
  show hEI (uFI (mk6 h a) 38 a (-1)) (a + 6) j = _
  rw [uFI_hEI]
  show hEI (stp (mk5 h a) a 6 201 60 530) (a + 6) j = _
  rw [stp_EI (mk5_z hz), if_pos rfl]
theorem mkK7 {h : AH} {a : Nat} (hz : hSz h = a + 1) : hKd (mk10 h a) (a + 7) = 203 := by
  show hKd (stp (mk9 h a) a 8 201 100 532) (a + 7) = _
  rw [stp_Kd (mk9_z hz), if_neg (by omega)]
  show hKd (stp (mk8 h a) a 7 203 60 531) (a + 7) = _
  rw [stp_Kd (mk8_z hz), if_pos rfl]
theorem mkL7 {h : AH} {a : Nat} (hz : hSz h = a + 1) : hLn (mk10 h a) (a + 7) = 60 := by
  show hLn (stp (mk9 h a) a 8 201 100 532) (a + 7) = _
  rw [stp_Ln (mk9_z hz), if_neg (by omega)]
  show hLn (stp (mk8 h a) a 7 203 60 531) (a + 7) = _
  rw [stp_Ln (mk8_z hz), if_pos rfl]
theorem mkF7 {h : AH} {a : Nat} (hz : hSz h = a + 1) : hFR (mk10 h a) 531 a = some (a + 7) := by
  show hFR (stp (mk9 h a) a 8 201 100 532) 531 a = _
  rw [stp_FR (mk9_z hz), if_neg (by decide)]
  show hFR (stp (mk8 h a) a 7 203 60 531) 531 a = _
  rw [stp_FR (mk8_z hz), if_pos rfl]
theorem mkE7 {h : AH} {a : Nat} (hz : hSz h = a + 1) : hEI (mk10 h a) (a + 7) = fun _ => 0 := by
  funext j
  show hEI (stp (mk9 h a) a 8 201 100 532) (a + 7) j = _
  rw [stp_EI (mk9_z hz), if_neg (by omega)]
  show hEI (stp (mk8 h a) a 7 203 60 531) (a + 7) j = _
  rw [stp_EI (mk8_z hz), if_pos rfl]
theorem mkK8 {h : AH} {a : Nat} (hz : hSz h = a + 1) : hKd (mk10 h a) (a + 8) = 201 := by
  show hKd (stp (mk9 h a) a 8 201 100 532) (a + 8) = _
  rw [stp_Kd (mk9_z hz), if_pos rfl]
theorem mkL8 {h : AH} {a : Nat} (hz : hSz h = a + 1) : hLn (mk10 h a) (a + 8) = 100 := by
  show hLn (stp (mk9 h a) a 8 201 100 532) (a + 8) = _
  rw [stp_Ln (mk9_z hz), if_pos rfl]
theorem mkF8 {h : AH} {a : Nat} (hz : hSz h = a + 1) : hFR (mk10 h a) 532 a = some (a + 8) := by
  show hFR (stp (mk9 h a) a 8 201 100 532) 532 a = _
  rw [stp_FR (mk9_z hz), if_pos rfl]
theorem mkE8 {h : AH} {a : Nat} (hz : hSz h = a + 1) : hEI (mk10 h a) (a + 8) = fun _ => 0 := by
  funext j
  show hEI (stp (mk9 h a) a 8 201 100 532) (a + 8) j = _
  rw [stp_EI (mk9_z hz), if_pos rfl]
theorem mkK0 {h : AH} {a : Nat} (hz : hSz h = a + 1) (hk : hKd h a = 13) : hKd (mk10 h a) a = 13 := by
  show hKd (stp (mk9 h a) a 8 201 100 532) a = _
  rw [stp_Kd (mk9_z hz), if_neg (by omega)]
  show hKd (stp (mk8 h a) a 7 203 60 531) a = _
  rw [stp_Kd (mk8_z hz), if_neg (by omega)]
  show hKd (uFI (mk7 h a) 39 a (-1)) a = _
  rw [uFI_hKd]
  show hKd (uFI (mk6 h a) 38 a (-1)) a = _
  rw [uFI_hKd]
  show hKd (stp (mk5 h a) a 6 201 60 530) a = _
  rw [stp_Kd (mk5_z hz), if_neg (by omega)]
  show hKd (stp (mk4 h a) a 5 201 221 529) a = _
  rw [stp_Kd (mk4_z hz), if_neg (by omega)]
  show hKd (stp (mk3 h a) a 4 201 221 528) a = _
  rw [stp_Kd (mk3_z hz), if_neg (by omega)]
  show hKd (stp (mk2 h a) a 3 201 221 527) a = _
  rw [stp_Kd (mk2_z hz), if_neg (by omega)]
  show hKd (stp (mk1 h a) a 2 201 1768 526) a = _
  rw [stp_Kd (mk1_z hz), if_neg (by omega)]
  show hKd (stp h a 1 201 221 525) a = _
  rw [stp_Kd hz, if_neg (by omega)]
  exact hk
theorem mkFI {h : AH} {a f : Nat} (hz : hSz h = a + 1) (hf : ∀ f, hFI h f a = 0) : hFI (mk10 h a) f a = if f = 39 then -1 else if f = 38 then -1 else 0 := by
  show hFI (stp (mk9 h a) a 8 201 100 532) f a = _
  rw [stp_FI (mk9_z hz)]
  show hFI (stp (mk8 h a) a 7 203 60 531) f a = _
  rw [stp_FI (mk8_z hz)]
  show hFI (uFI (mk7 h a) 39 a (-1)) f a = _
  rw [uFI_hFI]
  have e7 : hFI (mk7 h a) f a = if f = 38 then -1 else 0 := by
    show hFI (uFI (mk6 h a) 38 a (-1)) f a = _
    rw [uFI_hFI]
    have e6 : hFI (mk6 h a) f a = 0 := by
      show hFI (stp (mk5 h a) a 6 201 60 530) f a = _
      rw [stp_FI (mk5_z hz)]
      show hFI (stp (mk4 h a) a 5 201 221 529) f a = _
      rw [stp_FI (mk4_z hz)]
      show hFI (stp (mk3 h a) a 4 201 221 528) f a = _
      rw [stp_FI (mk3_z hz)]
      show hFI (stp (mk2 h a) a 3 201 221 527) f a = _
      rw [stp_FI (mk2_z hz)]
      show hFI (stp (mk1 h a) a 2 201 1768 526) f a = _
      rw [stp_FI (mk1_z hz)]
      show hFI (stp h a 1 201 221 525) f a = _
      rw [stp_FI hz]
      exact hf f
    rw [e6]
    by_cases e : f = 38
    · rw [if_pos ⟨e, rfl⟩, if_pos e]
    · rw [if_neg (fun z => e z.1), if_neg e]
  rw [e7]
  by_cases e : f = 39
  · rw [if_pos ⟨e, rfl⟩, if_pos e]
  · rw [if_neg (fun z => e z.1), if_neg e]
theorem mk1_q {h : AH} {a b : Nat} (hz : hSz h = a + 1) (hb : b < a) : Eqa (mk1 h a) h b := by
  show Eqa (stp h a 1 201 221 525) h b
  exact stp_Eqa hz hb
theorem mk2_q {h : AH} {a b : Nat} (hz : hSz h = a + 1) (hb : b < a) : Eqa (mk2 h a) h b := by
  show Eqa (stp (mk1 h a) a 2 201 1768 526) h b
  exact (stp_Eqa (mk1_z hz) hb).tr (mk1_q hz hb)
theorem mk3_q {h : AH} {a b : Nat} (hz : hSz h = a + 1) (hb : b < a) : Eqa (mk3 h a) h b := by
  show Eqa (stp (mk2 h a) a 3 201 221 527) h b
  exact (stp_Eqa (mk2_z hz) hb).tr (mk2_q hz hb)
theorem mk4_q {h : AH} {a b : Nat} (hz : hSz h = a + 1) (hb : b < a) : Eqa (mk4 h a) h b := by
  show Eqa (stp (mk3 h a) a 4 201 221 528) h b
  exact (stp_Eqa (mk3_z hz) hb).tr (mk3_q hz hb)
theorem mk5_q {h : AH} {a b : Nat} (hz : hSz h = a + 1) (hb : b < a) : Eqa (mk5 h a) h b := by
  show Eqa (stp (mk4 h a) a 5 201 221 529) h b
  exact (stp_Eqa (mk4_z hz) hb).tr (mk4_q hz hb)
theorem mk6_q {h : AH} {a b : Nat} (hz : hSz h = a + 1) (hb : b < a) : Eqa (mk6 h a) h b := by
  show Eqa (stp (mk5 h a) a 6 201 60 530) h b
  exact (stp_Eqa (mk5_z hz) hb).tr (mk5_q hz hb)
theorem mk7_q {h : AH} {a b : Nat} (hz : hSz h = a + 1) (hb : b < a) : Eqa (mk7 h a) h b := by
  show Eqa (uFI (mk6 h a) 38 a (-1)) h b
  exact (Eqa.uFI (by omega)).tr (mk6_q hz hb)
theorem mk8_q {h : AH} {a b : Nat} (hz : hSz h = a + 1) (hb : b < a) : Eqa (mk8 h a) h b := by
  show Eqa (uFI (mk7 h a) 39 a (-1)) h b
  exact (Eqa.uFI (by omega)).tr (mk7_q hz hb)
theorem mk9_q {h : AH} {a b : Nat} (hz : hSz h = a + 1) (hb : b < a) : Eqa (mk9 h a) h b := by
  show Eqa (stp (mk8 h a) a 7 203 60 531) h b
  exact (stp_Eqa (mk8_z hz) hb).tr (mk8_q hz hb)
theorem mk10_q {h : AH} {a b : Nat} (hz : hSz h = a + 1) (hb : b < a) : Eqa (mk10 h a) h b := by
  show Eqa (stp (mk9 h a) a 8 201 100 532) h b
  exact (stp_Eqa (mk9_z hz) hb).tr (mk9_q hz hb)
theorem mkTw {h : AH} {a : Nat} (hz : hSz h = a + 1) (hk : hKd h a = 13) : Tw (mk10 h a) a := ⟨mkK0 hz hk, mkF1 hz, mkF2 hz, mkF3 hz, mkF4 hz, mkF5 hz, mkF6 hz, mkF7 hz, mkF8 hz, mkK1 hz, mkK2 hz, mkK3 hz, mkK4 hz, mkK5 hz, mkK6 hz, mkK7 hz, mkK8 hz, mkL1 hz, mkL2 hz, mkL3 hz, mkL4 hz, mkL5 hz, mkL6 hz, mkL7 hz, mkL8 hz⟩
theorem nArr_Ka {h : AH} {a k kd n : Nat} (hz : hSz h = a + k) (h1 : 1 ≤ k) (hk : hKd h a = 13) : hKd (nArr h kd n) a = 13 := by
  rw [nArr_hKd, if_neg (by omega)]
  exact hk
theorem mk1_a {h : AH} {a : Nat} (hz : hSz h = a + 1) (hk : hKd h a = 13) : hKd (mk1 h a) a = 13 := by
  show hKd (stp h a 1 201 221 525) a = _
  rw [stp_Kd hz, if_neg (by omega)]
  exact hk
theorem mk2_a {h : AH} {a : Nat} (hz : hSz h = a + 1) (hk : hKd h a = 13) : hKd (mk2 h a) a = 13 := by
  show hKd (stp (mk1 h a) a 2 201 1768 526) a = _
  rw [stp_Kd (mk1_z hz), if_neg (by omega)]
  exact mk1_a hz hk
theorem mk3_a {h : AH} {a : Nat} (hz : hSz h = a + 1) (hk : hKd h a = 13) : hKd (mk3 h a) a = 13 := by
  show hKd (stp (mk2 h a) a 3 201 221 527) a = _
  rw [stp_Kd (mk2_z hz), if_neg (by omega)]
  exact mk2_a hz hk
theorem mk4_a {h : AH} {a : Nat} (hz : hSz h = a + 1) (hk : hKd h a = 13) : hKd (mk4 h a) a = 13 := by
  show hKd (stp (mk3 h a) a 4 201 221 528) a = _
  rw [stp_Kd (mk3_z hz), if_neg (by omega)]
  exact mk3_a hz hk
theorem mk5_a {h : AH} {a : Nat} (hz : hSz h = a + 1) (hk : hKd h a = 13) : hKd (mk5 h a) a = 13 := by
  show hKd (stp (mk4 h a) a 5 201 221 529) a = _
  rw [stp_Kd (mk4_z hz), if_neg (by omega)]
  exact mk4_a hz hk
theorem mk6_a {h : AH} {a : Nat} (hz : hSz h = a + 1) (hk : hKd h a = 13) : hKd (mk6 h a) a = 13 := by
  show hKd (stp (mk5 h a) a 6 201 60 530) a = _
  rw [stp_Kd (mk5_z hz), if_neg (by omega)]
  exact mk5_a hz hk
theorem mk7_a {h : AH} {a : Nat} (hz : hSz h = a + 1) (hk : hKd h a = 13) : hKd (mk7 h a) a = 13 := by
  show hKd (uFI (mk6 h a) 38 a (-1)) a = _
  rw [uFI_hKd]
  exact mk6_a hz hk
theorem mk8_a {h : AH} {a : Nat} (hz : hSz h = a + 1) (hk : hKd h a = 13) : hKd (mk8 h a) a = 13 := by
  show hKd (uFI (mk7 h a) 39 a (-1)) a = _
  rw [uFI_hKd]
  exact mk7_a hz hk
theorem mk9_a {h : AH} {a : Nat} (hz : hSz h = a + 1) (hk : hKd h a = 13) : hKd (mk9 h a) a = 13 := by
  show hKd (stp (mk8 h a) a 7 203 60 531) a = _
  rw [stp_Kd (mk8_z hz), if_neg (by omega)]
  exact mk8_a hz hk
theorem mk10_a {h : AH} {a : Nat} (hz : hSz h = a + 1) (hk : hKd h a = 13) : hKd (mk10 h a) a = 13 := by
  show hKd (stp (mk9 h a) a 8 201 100 532) a = _
  rw [stp_Kd (mk9_z hz), if_neg (by omega)]
  exact mk9_a hz hk
theorem t_init {G : GG} {h : AH} {a : Nat} (hz : hSz h = a + 1) (hk : hKd h a = 13) : Cal G kX5_init 1 8 2872 [.ref a] h (rV (twh (mk10 h a) a (bgG (fun _ => 0)) (fun i => hEI (mk10 h a) (a + i)) (fun f => hFI (mk10 h a) f a))) := by
  refine Cal.of (by decide +kernel) (Nat.le_of_ble_eq_true rfl) (fun c => ?_)
  refine x_aload_n dX5_init_0 rfl rfl ?_
  refine x_objInit q2077 q117 q118 dX5_init_1 (by decide) (by decide) ?_
  refine x_aload_n dX5_init_4 rfl rfl ?_
  refine x_sipush (nI 221) dX5_init_5 (by decide) ?_
  refine x_newa (t := 0) (n := 221) (by decide) rfl rfl (by decide) q159 (by decide) (by decide) dX5_init_8 ?_
  refine x_eq (h' := nArr h 201 221) rfl rfl (show [Value.ref (hSz h), Value.ref a] = [Value.ref (a + 1), Value.ref a] by rw [hz]) ?_
  refine xp12_0 q2082 ⟨rfl, rfl⟩ dX5_init_10 (nArr_Ka hz (by decide) hk) ?_
  refine x_eq (h' := mk1 h a) rfl rfl rfl ?_
  refine x_aload_n dX5_init_13 rfl rfl ?_
  refine x_sipush (nI 1768) dX5_init_14 (by decide) ?_
  refine x_newa (t := 0) (n := 1768) (by decide) rfl rfl (by decide) q159 (by decide) (by decide) dX5_init_17 ?_
  refine x_eq (h' := nArr (mk1 h a) 201 1768) rfl rfl (show [Value.ref (hSz (mk1 h a)), Value.ref a] = [Value.ref (a + 2), Value.ref a] by rw [(mk1_z hz)]) ?_
  refine xp12_1 q2083 ⟨rfl, rfl⟩ dX5_init_19 (nArr_Ka (mk1_z hz) (by decide) (mk1_a hz hk)) ?_
  refine x_eq (h' := mk2 h a) rfl rfl rfl ?_
  refine x_aload_n dX5_init_22 rfl rfl ?_
  refine x_sipush (nI 221) dX5_init_23 (by decide) ?_
  refine x_newa (t := 0) (n := 221) (by decide) rfl rfl (by decide) q159 (by decide) (by decide) dX5_init_26 ?_
  refine x_eq (h' := nArr (mk2 h a) 201 221) rfl rfl (show [Value.ref (hSz (mk2 h a)), Value.ref a] = [Value.ref (a + 3), Value.ref a] by rw [(mk2_z hz)]) ?_
  refine xp12_2 q2084 ⟨rfl, rfl⟩ dX5_init_28 (nArr_Ka (mk2_z hz) (by decide) (mk2_a hz hk)) ?_
  refine x_eq (h' := mk3 h a) rfl rfl rfl ?_
  refine x_aload_n dX5_init_31 rfl rfl ?_
  refine x_sipush (nI 221) dX5_init_32 (by decide) ?_
  refine x_newa (t := 0) (n := 221) (by decide) rfl rfl (by decide) q159 (by decide) (by decide) dX5_init_35 ?_
  refine x_eq (h' := nArr (mk3 h a) 201 221) rfl rfl (show [Value.ref (hSz (mk3 h a)), Value.ref a] = [Value.ref (a + 4), Value.ref a] by rw [(mk3_z hz)]) ?_
  refine xp12_3 q2085 ⟨rfl, rfl⟩ dX5_init_37 (nArr_Ka (mk3_z hz) (by decide) (mk3_a hz hk)) ?_
  refine x_eq (h' := mk4 h a) rfl rfl rfl ?_
  refine x_aload_n dX5_init_40 rfl rfl ?_
  refine x_sipush (nI 221) dX5_init_41 (by decide) ?_
  refine x_newa (t := 0) (n := 221) (by decide) rfl rfl (by decide) q159 (by decide) (by decide) dX5_init_44 ?_
  refine x_eq (h' := nArr (mk4 h a) 201 221) rfl rfl (show [Value.ref (hSz (mk4 h a)), Value.ref a] = [Value.ref (a + 5), Value.ref a] by rw [(mk4_z hz)]) ?_
  refine xp12_4 q2086 ⟨rfl, rfl⟩ dX5_init_46 (nArr_Ka (mk4_z hz) (by decide) (mk4_a hz hk)) ?_
  refine x_eq (h' := mk5 h a) rfl rfl rfl ?_
  refine x_aload_n dX5_init_49 rfl rfl ?_
  refine x_bipush (nI 60) dX5_init_50 (by decide) ?_
  refine x_newa (t := 0) (n := 60) (by decide) rfl rfl (by decide) q159 (by decide) (by decide) dX5_init_52 ?_
  refine x_eq (h' := nArr (mk5 h a) 201 60) rfl rfl (show [Value.ref (hSz (mk5 h a)), Value.ref a] = [Value.ref (a + 6), Value.ref a] by rw [(mk5_z hz)]) ?_
  refine xp12_11 q2093 ⟨rfl, rfl⟩ dX5_init_54 (nArr_Ka (mk5_z hz) (by decide) (mk5_a hz hk)) ?_
  refine x_eq (h' := mk6 h a) rfl rfl rfl ?_
  refine x_aload_n dX5_init_57 rfl rfl ?_
  refine x_iconst (-1) dX5_init_58 (by decide) ?_
  refine xp12_13 (.inl q2095) dX5_init_59 (mk6_a hz hk) ?_
  refine x_eq (h' := mk7 h a) rfl rfl rfl ?_
  refine x_aload_n dX5_init_62 rfl rfl ?_
  refine x_iconst (-1) dX5_init_63 (by decide) ?_
  refine xp12_14 (.inl q2096) dX5_init_64 (mk7_a hz hk) ?_
  refine x_eq (h' := mk8 h a) rfl rfl rfl ?_
  refine x_aload_n dX5_init_67 rfl rfl ?_
  refine x_bipush (nI 60) dX5_init_68 (by decide) ?_
  refine x_newa (t := 2) (n := 60) (by decide) rfl rfl (by decide) q2143 (by decide) (by decide) dX5_init_70 ?_
  refine x_eq (h' := nArr (mk8 h a) 203 60) rfl rfl (show [Value.ref (hSz (mk8 h a)), Value.ref a] = [Value.ref (a + 7), Value.ref a] by rw [(mk8_z hz)]) ?_
  refine xp12_15 q2097 ⟨rfl, rfl⟩ dX5_init_72 (nArr_Ka (mk8_z hz) (by decide) (mk8_a hz hk)) ?_
  refine x_eq (h' := mk9 h a) rfl rfl rfl ?_
  refine x_aload_n dX5_init_75 rfl rfl ?_
  refine x_bipush (nI 100) dX5_init_76 (by decide) ?_
  refine x_newa (t := 0) (n := 100) (by decide) rfl rfl (by decide) q159 (by decide) (by decide) dX5_init_78 ?_
  refine x_eq (h' := nArr (mk9 h a) 201 100) rfl rfl (show [Value.ref (hSz (mk9 h a)), Value.ref a] = [Value.ref (a + 8), Value.ref a] by rw [(mk9_z hz)]) ?_
  refine xp12_18 q2100 ⟨rfl, rfl⟩ dX5_init_80 (nArr_Ka (mk9_z hz) (by decide) (mk9_a hz hk)) ?_
  refine x_eq (h' := mk10 h a) rfl rfl rfl ?_
  refine x_aload_n dX5_init_83 rfl rfl ?_
  refine x_eq (h' := twh (mk10 h a) a (fun _ => 0) (fun i => hEI (mk10 h a) (a + i)) (fun f => hFI (mk10 h a) f a)) (by rw [← mkE1 hz]; exact (twh_eta _ _).symm) rfl rfl ?_
  refine x_cVV (t_begins (mkTw hz hk)) okX5_begins clX5 q2078 q2080 qs22 dX5_init_84 (Or.inl (mkTw hz hk).1) rfl rfl (by decide) (Nat.zero_le _) (Nat.zero_le _) (Nat.le_of_ble_eq_true rfl) (fun _ => ?_)
  refine x_vret rfl dX5_init_87 ?_
  exact ⟨rfl, rfl⟩
