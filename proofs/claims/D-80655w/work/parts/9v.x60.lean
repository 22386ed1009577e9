/-! ===== a call, frame by frame ===== -/
/-- the numbers when the frame opened last has come to its end -/
def rn1 : Nat → mW → mW
  | 0, w => w
  | n + 1, w => if woW w 51 0 ≠ 0 then woW w else if woI w = -1 then clW1 (woW w) else if rn1 n (opW (woW w) (woI w) (woI w)) 51 0 ≠ 0 then rn1 n (opW (woW w) (woI w) (woI w)) else clW1 (rn1 n (opW (woW w) (woI w) (woI w)))
theorem rn1_bad {n : Nat} {w : mW} (h : woW w 51 0 ≠ 0) : rn1 (n + 1) w = woW w := by simp only [rn1]; rw [if_pos h]
theorem rn1_end {n : Nat} {w : mW} (h : woW w 51 0 = 0) (h' : woI w = -1) : rn1 (n + 1) w = clW1 (woW w) := by simp only [rn1]; rw [if_neg (fun z => z h), if_pos h']
theorem rn1_goF {n : Nat} {w : mW} (h : woW w 51 0 = 0) (h' : woI w ≠ -1) (hf : rn1 n (opW (woW w) (woI w) (woI w)) 51 0 ≠ 0) : rn1 (n + 1) w = rn1 n (opW (woW w) (woI w) (woI w)) := by simp only [rn1]; rw [if_neg (fun z => z h), if_neg h', if_pos hf]
theorem rn1_go {n : Nat} {w : mW} (h : woW w 51 0 = 0) (h' : woI w ≠ -1) (hf : rn1 n (opW (woW w) (woI w) (woI w)) 51 0 = 0) : rn1 (n + 1) w = clW1 (rn1 n (opW (woW w) (woI w) (woI w))) := by simp only [rn1]; rw [if_neg (fun z => z h), if_neg h', if_neg (fun z => z hf)]
theorem caW_1 {k : Nat} (h : 1 ≤ k) (w : mW) : caW k w = caW (k - 1) (clW1 w) := by
  obtain ⟨q, rfl⟩ : ∃ q, k = q + 1 := ⟨k - 1, by omega⟩
  rfl
theorem clW1_51 {w : mW} : clW1 w 51 0 = w 51 0 := clW1_e.1 51 0 (by decide) (by decide) (by decide)
theorem rn1_rnW : ∀ (n : Nat) {w : mW} {k : Nat}, mWF w → stP w k → n + k = 13 → (0 ≤ w 35 0 ∧ w 35 0 ≤ 999900 + k) → rnW n w = if rn1 n w 51 0 = 0 then caW (k - 1) (rn1 n w) else rn1 n w
  | 0, w, k, hw, hP, hk, _ => by have h1 := hP.1.2.2.1; have h2 := hP.2.1; omega
  | n + 1, w, k, hw, hP, hk, h35 => by
    have hk1 : 1 ≤ k := by have h1 := hP.1.2.2.1; have h2 := hP.2.1; omega
    by_cases hF : woW w 51 0 = 0
    · by_cases hI : woI w = -1
      · rw [rn_end (by omega) hF hI, rn1_end hF hI, clW1_51, if_pos hF]
        have e45 : woW w 45 0 = k := ((wk_end hw hP hI hF).2.2.1 45 0 (by decide) (by decide) (by decide)).trans hP.2.1
        rw [e45, show ((k : Int)).toNat = k from by omega]
        exact caW_1 hk1 _
      · obtain ⟨hN, hk12⟩ := st_next hP hI
        obtain ⟨e, h12, hn⟩ := wk_nx hP.1 hI
        obtain ⟨o1, o2, o3, o4, o5, o6, o7⟩ := opW_e (w := woW w) (m := woI w) (told := woI w)
        have h35' : woW w 35 0 = w 35 0 := wo_e 35 0 (by decide) (by decide) (by decide)
        have hnr := of_decide_eq_true hn.1
        have h100 := hP.1.1.B.2.2.2.1
        have e45 : woW w 45 0 = w 45 0 := by rw [e]; exact cmW_C 45 0 (by decide) (by decide)
        have hk2 := hP.2.1
        have hw2 : mWF (opW (woW w) (woI w) (woI w)) := opW_wf (woW_wf hw hP.1) ⟨by omega, by omega⟩ (by omega) (by omega)
        rw [show rnW (n + 1) w = rnW n (opW (woW w) (woI w) (woI w)) from rn_go (by omega) hF hI, rn1_rnW n hw2 hN (by omega) (by rw [o6, h35']; omega)]
        by_cases h51 : rn1 n (opW (woW w) (woI w) (woI w)) 51 0 = 0
        · rw [if_pos h51, rn1_go hF hI h51, clW1_51, if_pos h51, show k + 1 - 1 = k from by omega]
          exact caW_1 hk1 _
        · rw [if_neg h51, rn1_goF hF hI h51, if_neg h51]
    · rw [rn_bad (by omega) hF, rn1_bad hF, if_neg hF]

