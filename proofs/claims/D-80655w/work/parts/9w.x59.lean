/-! ===== two floats added by way of doubles ===== -/
theorem near_sc (num den j : Nat) : FP.Core.nearest (num * 2 ^ j) (den * 2 ^ j) = FP.Core.nearest num den := by
  have h2 : 0 < 2 ^ j := Nat.two_pow_pos j
  have e1 : num * 2 ^ j % (den * 2 ^ j) = num % den * 2 ^ j := Nat.mul_mod_mul_right _ _ _
  have e2 : num * 2 ^ j / (den * 2 ^ j) = num / den := Nat.mul_div_mul_right _ _ h2
  have c1 : 2 * (num % den * 2 ^ j) < den * 2 ^ j ↔ 2 * (num % den) < den := by
    rw [← Nat.mul_assoc]
    exact ⟨fun h => Nat.lt_of_mul_lt_mul_right h, fun h => Nat.mul_lt_mul_of_pos_right h h2⟩
  have c2 : den * 2 ^ j < 2 * (num % den * 2 ^ j) ↔ den < 2 * (num % den) := by
    rw [← Nat.mul_assoc]
    exact ⟨fun h => Nat.lt_of_mul_lt_mul_right h, fun h => Nat.mul_lt_mul_of_pos_right h h2⟩
  unfold FP.Core.nearest
  rw [e1, e2]
  by_cases h1 : 2 * (num % den) < den
  · rw [if_pos h1, if_pos (c1.mpr h1)]
  · rw [if_neg h1, if_neg (fun z => h1 (c1.mp z))]
    by_cases h3 : den < 2 * (num % den)
    · rw [if_pos h3, if_pos (c2.mpr h3)]
    · rw [if_neg h3, if_neg (fun z => h3 (c2.mp z))]
/-- a magnitude by another scale -/
theorem rnd_sc {f : FP.Core.Fmt} {s : Bool} {A i : Nat} {e : Int} : FP.Core.roundRatio f s (A * 2 ^ i) 1 e = FP.Core.roundRatio f s A 1 (e + i) := by
  by_cases h0 : A = 0
  · subst h0; unfold FP.Core.roundRatio; rw [Nat.zero_mul, if_pos rfl, if_pos rfl]
  · have h1 : A * 2 ^ i ≠ 0 := Nat.mul_ne_zero h0 (Nat.ne_of_gt (Nat.two_pow_pos i))
    unfold FP.Core.roundRatio
    rw [if_neg h0, if_neg h1]
    have hq : FP.Core.quantum f (A * 2 ^ i) 1 e = FP.Core.quantum f A 1 (e + i) := by
      unfold FP.Core.quantum
      rw [lead1 h0, lead1 h1, lgp_mul h0]
      have e9 : ((A.log2 + i : Nat) : Int) + e - ((f.p : Int) - 1) = (A.log2 : Int) + (e + i) - ((f.p : Int) - 1) := by omega
      rw [e9]
    rw [hq]
    generalize FP.Core.quantum f A 1 (e + i) = q
    unfold FP.Core.roundAt
    have hn : FP.Core.nearest (FP.Core.unitsNum (A * 2 ^ i) e q) (FP.Core.unitsDen 1 e q) = FP.Core.nearest (FP.Core.unitsNum A (e + i) q) (FP.Core.unitsDen 1 (e + i) q) := by
      unfold FP.Core.unitsNum FP.Core.unitsDen
      by_cases c1 : q ≤ e
      · rw [show (q - e).toNat = 0 by omega, show (q - (e + i)).toNat = 0 by omega, show (e + i - q).toNat = i + (e - q).toNat by omega, Nat.pow_add, Nat.mul_assoc]
      · by_cases c2 : q ≤ e + i
        · rw [show (e - q).toNat = 0 by omega, show (q - (e + i)).toNat = 0 by omega]
          have a3 : i = (e + i - q).toNat + (q - e).toNat := by omega
          have a4 : A * 2 ^ i * 2 ^ 0 = A * 2 ^ (e + i - q).toNat * 2 ^ (q - e).toNat := by rw [Nat.pow_zero, Nat.mul_one, Nat.mul_assoc, ← Nat.pow_add, ← a3]
          rw [a4, near_sc, Nat.pow_zero, Nat.mul_one]
        · rw [show (e - q).toNat = 0 by omega, show (e + i - q).toNat = 0 by omega, show (q - e).toNat = (q - (e + i)).toNat + i by omega, Nat.pow_add, ← Nat.mul_assoc 1]
          rw [show A * 2 ^ i * 2 ^ 0 = A * 2 ^ 0 * 2 ^ i by rw [Nat.pow_zero, Nat.mul_one, Nat.mul_one], near_sc]
    rw [hn]
theorem rnd_val {f : FP.Core.Fmt} {s : Bool} {A B : Nat} {e e2 K : Int} (he : 0 ≤ e + K) (he2 : 0 ≤ e2 + K) (h : A * 2 ^ (e + K).toNat = B * 2 ^ (e2 + K).toNat) : FP.Core.roundRatio f s A 1 e = FP.Core.roundRatio f s B 1 e2 := by
  have h1 := rnd_sc (f := f) (s := s) (A := A) (i := (e + K).toNat) (e := -K)
  have h2 := rnd_sc (f := f) (s := s) (A := B) (i := (e2 + K).toNat) (e := -K)
  rw [show -K + (((e + K).toNat : Nat) : Int) = e by omega] at h1
  rw [show -K + (((e2 + K).toNat : Nat) : Int) = e2 by omega] at h2
  rw [← h1, ← h2, h]
theorem near_at {num den c : Nat} (h1 : 2 * num < 2 * (c * den) + den) (h2 : 2 * (c * den) < 2 * num + den) : FP.Core.nearest num den = c := by
  have hd : 0 < den := by omega
  have e := Nat.div_add_mod num den
  have hr := Nat.mod_lt num hd
  unfold FP.Core.nearest
  generalize num / den = k at e ⊢
  generalize num % den = r at e hr ⊢
  rw [Nat.mul_comm c den] at h1 h2
  rcases Nat.lt_trichotomy k c with h | h | h
  · have g : den * k + den ≤ den * c := by
      have := Nat.mul_le_mul_left den (show k + 1 ≤ c from h)
      rw [Nat.mul_add, Nat.mul_one] at this; exact this
    have hk : k + 1 = c := by
      by_cases h9 : k + 1 = c
      · exact h9
      · have g2 : den * k + 2 * den ≤ den * c := by
          have := Nat.mul_le_mul_left den (show k + 2 ≤ c by omega)
          rw [Nat.mul_add, Nat.mul_comm den 2] at this; exact this
        omega
    have g3 : den * c = den * k + den := by rw [← hk, Nat.mul_add, Nat.mul_one]
    rw [if_neg (by omega), if_pos (by omega), hk]
  · subst h
    rw [if_pos (by omega)]
  · have g : den * c + den ≤ den * k := by
      have := Nat.mul_le_mul_left den (show c + 1 ≤ k from h)
      rw [Nat.mul_add, Nat.mul_one] at this; exact this
    omega
theorem near_err {num den : Nat} (hd : 0 < den) : 2 * (FP.Core.nearest num den * den) ≤ 2 * num + den ∧ 2 * num ≤ 2 * (FP.Core.nearest num den * den) + den := by
  have e := Nat.div_add_mod num den
  have hr := Nat.mod_lt num hd
  unfold FP.Core.nearest
  generalize num / den = k at e ⊢
  generalize num % den = r at e hr ⊢
  rw [Nat.mul_comm den k] at e
  split
  · omega
  · split
    · rw [Nat.add_mul, Nat.one_mul]; omega
    · have h2 : k % 2 = 0 ∨ k % 2 = 1 := by omega
      rcases h2 with h2 | h2 <;> rw [h2]
      · rw [Nat.add_zero]; omega
      · rw [Nat.add_mul, Nat.one_mul]; omega
/-- near a float that has all its digits, the float itself -/
theorem near32 {s : Bool} {c i X : Nat} (hc : 8388608 ≤ c ∧ c < 16777216) (hi : 1 ≤ i ∧ i ≤ 253) (h1 : 4 * X < 4 * (c * 2 ^ i) + 2 ^ i) (h2 : 4 * (c * 2 ^ i) < 4 * X + 2 ^ i) : FP.Core.roundRatio FP.Core.b32 s X 1 (-149) = .fin s c ((i : Int) - 149) := by
  have hP : 0 < 2 ^ i := Nat.two_pow_pos i
  have hc1 : 8388608 * 2 ^ i ≤ c * 2 ^ i := Nat.mul_le_mul_right _ hc.1
  have hc2 : c * 2 ^ i + 2 ^ i ≤ 16777216 * 2 ^ i := by
    have := Nat.mul_le_mul_right (2 ^ i) (show c + 1 ≤ 16777216 by omega)
    rw [Nat.add_mul, Nat.one_mul] at this; exact this
  have hX : X ≠ 0 := by omega
  have e23 : 2 ^ (23 + i) = 8388608 * 2 ^ i := by rw [Nat.pow_add]
  have e22 : 2 ^ (22 + i) = 4194304 * 2 ^ i := by rw [Nat.pow_add]
  have e24 : 2 ^ (24 + i) = 16777216 * 2 ^ i := by rw [Nat.pow_add]
  unfold FP.Core.roundRatio
  rw [if_neg hX]
  by_cases hb : 8388608 * 2 ^ i ≤ X
  · have l1 : 23 + i ≤ X.log2 := (Nat.le_log2 hX).mpr (by rw [e23]; exact hb)
    have l2 : X.log2 < 24 + i := (Nat.log2_lt hX).mpr (by rw [e24]; omega)
    have hq : FP.Core.quantum FP.Core.b32 X 1 (-149) = (i : Int) - 149 := by
      unfold FP.Core.quantum
      rw [lead1 hX, gqmin, show ((FP.Core.b32.p : Int)) = 24 from rfl]
      omega
    rw [hq]
    unfold FP.Core.roundAt FP.Core.unitsNum FP.Core.unitsDen
    rw [show ((-149 : Int) - ((i : Int) - 149)).toNat = 0 by omega, show ((i : Int) - 149 - (-149)).toNat = i by omega, Nat.pow_zero, Nat.mul_one, Nat.one_mul, near_at (c := c) (by omega) (by omega)]
    unfold FP.Core.settle FP.Core.bound
    rw [if_pos (show c < 2 ^ FP.Core.b32.p from hc.2), gqmax, if_pos (by omega)]
  · have hcc : c = 8388608 := by
      by_cases h9 : c = 8388608
      · exact h9
      · have := Nat.mul_le_mul_right (2 ^ i) (show 8388609 ≤ c by omega)
        omega
    have l1 : 22 + i ≤ X.log2 := (Nat.le_log2 hX).mpr (by rw [e22]; omega)
    have l2 : X.log2 < 23 + i := (Nat.log2_lt hX).mpr (by rw [e23]; omega)
    have hq : FP.Core.quantum FP.Core.b32 X 1 (-149) = (i : Int) - 150 := by
      unfold FP.Core.quantum
      rw [lead1 hX, gqmin, show ((FP.Core.b32.p : Int)) = 24 from rfl]
      omega
    have eP : 2 ^ i = 2 * 2 ^ (i - 1) := by
      obtain ⟨j, rfl⟩ : ∃ j, i = j + 1 := ⟨i - 1, by omega⟩
      rw [Nat.add_sub_cancel, Nat.pow_succ, Nat.mul_comm]
    rw [hq]
    unfold FP.Core.roundAt FP.Core.unitsNum FP.Core.unitsDen
    rw [show ((-149 : Int) - ((i : Int) - 150)).toNat = 0 by omega, show ((i : Int) - 150 - (-149)).toNat = i - 1 by omega, Nat.pow_zero, Nat.mul_one, Nat.one_mul, near_at (c := 16777216) (by omega) (by omega)]
    unfold FP.Core.settle FP.Core.bound
    rw [if_neg (show ¬ 16777216 < 2 ^ FP.Core.b32.p by decide), gqmax, gtails, if_pos (by omega), hcc, show (i : Int) - 150 + 1 = (i : Int) - 149 by omega]
/-- rounded to doubles first, then to floats -/
abbrev rrP (s : Bool) (S : Nat) : Prop := ∃ c q, FP.Core.fits FP.Core.b64 (.fin s c q) ∧ FP.Core.roundRatio FP.Core.b64 s S 1 (-149) = .fin s c q ∧ FP.Core.roundRatio FP.Core.b32 s c 1 q = FP.Core.roundRatio FP.Core.b32 s S 1 (-149)
theorem rr_small {s : Bool} {S : Nat} (h : fRep (S * 2 ^ 925)) : rrP s S := by
  obtain ⟨c, q, h1, h2⟩ := h
  have hf := fitsI.mp (h1 s)
  have e : S * 2 ^ ((-149 : Int) + 1074).toNat = c * 2 ^ (q + 1074).toNat := h2.symm
  exact ⟨c, q, h1 s, rnd_ex (by decide) (h1 s) (by omega) (by omega) e, rnd_val (K := 1074) (by omega) (by omega) e.symm⟩
theorem rr_big {s : Bool} {N c i m : Nat} (hc : 8388608 ≤ c ∧ c < 16777216) (hi : i ≤ 253) (hm : 32 * m < 2 ^ i) (hN : N = c * 2 ^ i + m ∨ N + m = c * 2 ^ i) (h53 : 53 ≤ N.log2) : rrP s N := by
  have hP : 0 < 2 ^ i := Nat.two_pow_pos i
  have hN0 : N ≠ 0 := fun h => by rw [h] at h53; exact absurd h53 (by decide)
  have hc2 : c * 2 ^ i + 2 ^ i ≤ 16777216 * 2 ^ i := by
    have := Nat.mul_le_mul_right (2 ^ i) (show c + 1 ≤ 16777216 by omega)
    rw [Nat.add_mul, Nat.one_mul] at this; exact this
  have hL : N.log2 < 24 + i := (Nat.log2_lt hN0).mpr (by rw [show 2 ^ (24 + i) = 16777216 * 2 ^ i by rw [Nat.pow_add]]; omega)
  obtain ⟨L, eL⟩ : ∃ L, N.log2 = L := ⟨_, rfl⟩
  have hlo := Nat.log2_self_le hN0
  have hhi := Nat.lt_log2_self (n := N)
  rw [eL] at h53 hL hlo hhi
  have hD : 0 < 2 ^ (L - 52) := Nat.two_pow_pos _
  have hD2 : 268435456 * 2 ^ (L - 52) ≤ 2 ^ i := by
    have h1 : 2 ^ (28 + (L - 52)) ≤ 2 ^ i := Nat.pow_le_pow_right (by decide) (by omega)
    rw [Nat.pow_add] at h1; exact h1
  have hlo2 : 4503599627370496 * 2 ^ (L - 52) ≤ N := by
    rw [show L = 52 + (L - 52) by omega, Nat.pow_add] at hlo
    exact hlo
  have hhi2 : N < 9007199254740992 * 2 ^ (L - 52) := by
    rw [show L + 1 = 53 + (L - 52) by omega, Nat.pow_add] at hhi; exact hhi
  obtain ⟨g1, g2⟩ := near_err (num := N) hD
  have hR : FP.Core.roundRatio FP.Core.b64 s N 1 (-149) = FP.Core.settle FP.Core.b64 s (FP.Core.nearest N (2 ^ (L - 52))) ((L : Int) - 201) := by
    unfold FP.Core.roundRatio
    rw [if_neg hN0]
    have hq : FP.Core.quantum FP.Core.b64 N 1 (-149) = (L : Int) - 201 := by
      unfold FP.Core.quantum
      rw [lead1 hN0, eL, fqmin, show ((FP.Core.b64.p : Int)) = 53 from rfl]
      omega
    rw [hq]
    unfold FP.Core.roundAt FP.Core.unitsNum FP.Core.unitsDen
    rw [show ((-149 : Int) - ((L : Int) - 201)).toNat = 0 by omega, show ((L : Int) - 201 - (-149)).toNat = L - 52 by omega, Nat.pow_zero, Nat.mul_one, Nat.one_mul]
  generalize FP.Core.nearest N (2 ^ (L - 52)) = c0 at g1 g2 hR
  have k1 : c0 ≤ 9007199254740992 := by
    by_cases h9 : c0 ≤ 9007199254740992
    · exact h9
    · have := Nat.mul_le_mul_right (2 ^ (L - 52)) (show 9007199254740993 ≤ c0 by omega)
      omega
  have k2 : 4503599627370496 ≤ c0 := by
    by_cases h9 : 4503599627370496 ≤ c0
    · exact h9
    · have := Nat.mul_le_mul_right (2 ^ (L - 52)) (show c0 ≤ 4503599627370495 by omega)
      omega
  have hA : FP.Core.roundRatio FP.Core.b32 s N 1 (-149) = .fin s c ((i : Int) - 149) := near32 hc ⟨by omega, hi⟩ (by omega) (by omega)
  have hB : FP.Core.roundRatio FP.Core.b32 s (c0 * 2 ^ (L - 52)) 1 (-149) = .fin s c ((i : Int) - 149) := near32 hc ⟨by omega, hi⟩ (by omega) (by omega)
  by_cases h9 : c0 < 9007199254740992
  · refine ⟨c0, (L : Int) - 201, fitsI.mpr ⟨h9, by omega, by omega, Or.inr k2⟩, ?_, ?_⟩
    · rw [hR]; unfold FP.Core.settle FP.Core.bound
      rw [if_pos (show c0 < 2 ^ FP.Core.b64.p from h9), fqmax, if_pos (by omega)]
    · rw [hA, ← hB, rnd_sc, show (-149 : Int) + ((L - 52 : Nat) : Int) = (L : Int) - 201 by omega]
  · have e0 : c0 = 9007199254740992 := by omega
    refine ⟨4503599627370496, (L : Int) - 200, fitsI.mpr ⟨by decide, by omega, by omega, Or.inr (by decide)⟩, ?_, ?_⟩
    · rw [hR]; unfold FP.Core.settle FP.Core.bound
      rw [if_neg (show ¬ c0 < 2 ^ FP.Core.b64.p from h9), ftails, fqmax, if_pos (by omega), show (L : Int) - 201 + 1 = (L : Int) - 200 by omega]
    · rw [hA, ← hB, e0, show 9007199254740992 * 2 ^ (L - 52) = 4503599627370496 * 2 ^ (L - 51) by rw [show L - 51 = L - 52 + 1 by omega, Nat.pow_succ]; omega, rnd_sc, show (-149 : Int) + ((L - 51 : Nat) : Int) = (L : Int) - 200 by omega]
theorem rr_53 {s : Bool} {X j : Nat} (hX : X < 9007199254740992) (hj : j ≤ 253) : rrP s (X * 2 ^ j) := by
  refine rr_small ?_
  rw [Nat.mul_assoc, ← Nat.pow_add]
  exact fRep_p _ X hX (by omega)
theorem rr_wl {s : Bool} {S c i d j : Nat} (hc : c < 16777216) (hd : d < 16777216) (hi : i ≤ 253) (hn : i = 0 ∨ 8388608 ≤ c) (hj : j ≤ i) (hS : S = c * 2 ^ i + d * 2 ^ j ∨ S + d * 2 ^ j = c * 2 ^ i ∨ S + c * 2 ^ i = d * 2 ^ j) : rrP s S := by
  by_cases h28 : i - j ≤ 28
  · have ei : c * 2 ^ i = c * 2 ^ (i - j) * 2 ^ j := by rw [Nat.mul_assoc, ← Nat.pow_add, Nat.sub_add_cancel hj]
    have hb : c * 2 ^ (i - j) ≤ 16777216 * 268435456 := Nat.mul_le_mul (by omega) (Nat.le_trans (Nat.pow_le_pow_right (by decide) h28) (by decide))
    rw [ei] at hS
    rcases hS with h | h | h
    · rw [h, ← Nat.add_mul]; exact rr_53 (by omega) (by omega)
    · have e : S = (c * 2 ^ (i - j) - d) * 2 ^ j := by rw [Nat.sub_mul]; omega
      rw [e]; exact rr_53 (by omega) (by omega)
    · have e : S = (d - c * 2 ^ (i - j)) * 2 ^ j := by rw [Nat.sub_mul]; omega
      rw [e]; exact rr_53 (by omega) (by omega)
  · have hc8 : 8388608 ≤ c := by omega
    have hQ : 0 < 2 ^ j := Nat.two_pow_pos j
    have hP : 536870912 * 2 ^ j ≤ 2 ^ i := by
      have h1 : 2 ^ (29 + j) ≤ 2 ^ i := Nat.pow_le_pow_right (by decide) (by omega)
      rw [Nat.pow_add] at h1; exact h1
    have hm1 : d * 2 ^ j + 2 ^ j ≤ 16777216 * 2 ^ j := by
      have := Nat.mul_le_mul_right (2 ^ j) (show d + 1 ≤ 16777216 by omega)
      rw [Nat.add_mul, Nat.one_mul] at this; exact this
    have hc1 : 8388608 * 2 ^ i ≤ c * 2 ^ i := Nat.mul_le_mul_right _ hc8
    have hS2 : S = c * 2 ^ i + d * 2 ^ j ∨ S + d * 2 ^ j = c * 2 ^ i := by
      rcases hS with h | h | h
      · exact Or.inl h
      · exact Or.inr h
      · omega
    by_cases h53 : 53 ≤ S.log2
    · exact rr_big ⟨hc8, hc⟩ hi (by omega) hS2 h53
    · by_cases h0 : S = 0
      · rw [h0, show (0 : Nat) = 0 * 2 ^ 0 from rfl]; exact rr_53 (by decide) (by decide)
      · have hlt : S < 2 ^ 53 := (Nat.log2_lt h0).mp (by omega)
        rw [show S = S * 2 ^ 0 by rw [Nat.pow_zero, Nat.mul_one]]
        exact rr_53 hlt (by decide)
theorem sgd_mul (s : Bool) (a k : Nat) : FP.Core.signed s (a * k) = FP.Core.signed s a * (k : Int) := by
  unfold FP.Core.signed
  split
  · rw [Int.natCast_mul, Int.neg_mul]
  · rw [Int.natCast_mul]
theorem sgd_V {s : Bool} {c : Nat} {q e K : Int} (h : e ≤ q) (he : 0 ≤ e + K) : FP.Core.signed s (FP.Core.inUnits c q e) * ((2 ^ (e + K).toNat : Nat) : Int) = FP.Core.signed s (c * 2 ^ (q + K).toNat) := by
  rw [← sgd_mul]
  unfold FP.Core.inUnits
  rw [Nat.mul_assoc, ← Nat.pow_add, show (q - e).toNat + (e + K).toNat = (q + K).toNat by omega]
theorem exs {s t : Bool} {c d n m : Nat} {q r K : Int} (h1 : c * 2 ^ (q + K).toNat = n) (h2 : d * 2 ^ (r + K).toNat = m) (hq : 0 ≤ q + K) (hr : 0 ≤ r + K) : ∃ (V : Int) (e : Int), FP.Core.exactSum (.fin s c q) (.fin t d r) = .fin (FP.Core.sumSign s t V) V.natAbs e ∧ 0 ≤ e + K ∧ V * ((2 ^ (e + K).toNat : Nat) : Int) = FP.Core.signed s n + FP.Core.signed t m := by
  refine ⟨_, min q r, rfl, by omega, ?_⟩
  show (FP.Core.signed s (FP.Core.inUnits c q (min q r)) + FP.Core.signed t (FP.Core.inUnits d r (min q r))) * _ = _
  rw [Int.add_mul, sgd_V (by omega) (by omega), sgd_V (by omega) (by omega), h1, h2]
theorem sgn_sc {s t : Bool} {V : Int} {P : Nat} (hP : 0 < P) : FP.Core.sumSign s t (V * (P : Int)) = FP.Core.sumSign s t V := by
  have hP' : (0 : Int) < (P : Int) := by omega
  unfold FP.Core.sumSign
  rcases Int.lt_trichotomy V 0 with h | h | h
  · have h1 := Int.mul_neg_of_neg_of_pos h hP'
    rw [if_neg (by omega), if_neg (by omega), decide_eq_true h, decide_eq_true h1]
  · rw [h, Int.zero_mul]
  · have h1 := Int.mul_pos h hP'
    rw [if_neg (by omega), if_neg (by omega), decide_eq_false (by omega), decide_eq_false (by omega)]
theorem g_rep {n : Nat} (h : gRep n) : ∃ c i, c < 16777216 ∧ i ≤ 253 ∧ (i = 0 ∨ 8388608 ≤ c) ∧ n = c * 2 ^ i := by
  obtain ⟨c, q, h1, h2⟩ := h
  have hf := gitsI.mp (h1 false)
  exact ⟨c, (q + 149).toNat, hf.1, by omega, by omega, h2.symm⟩
/-- a sum of floats, as a whole number of the least ones, rounds to a float by way of doubles -/
theorem rr_sum {s t u : Bool} {n m : Nat} (hn : gRep n) (hm : gRep m) : rrP u (FP.Core.signed s n + FP.Core.signed t m).natAbs := by
  obtain ⟨c, i, c1, c2, c3, rfl⟩ := g_rep hn
  obtain ⟨d, j, d1, d2, d3, rfl⟩ := g_rep hm
  have hS : (FP.Core.signed s (c * 2 ^ i) + FP.Core.signed t (d * 2 ^ j)).natAbs = c * 2 ^ i + d * 2 ^ j ∨ (FP.Core.signed s (c * 2 ^ i) + FP.Core.signed t (d * 2 ^ j)).natAbs + d * 2 ^ j = c * 2 ^ i ∨ (FP.Core.signed s (c * 2 ^ i) + FP.Core.signed t (d * 2 ^ j)).natAbs + c * 2 ^ i = d * 2 ^ j := by
    generalize c * 2 ^ i = a
    generalize d * 2 ^ j = b
    unfold FP.Core.signed
    cases s <;> cases t <;> simp only [Bool.false_eq_true, if_true, if_false] <;> omega
  by_cases h : j ≤ i
  · exact rr_wl c1 d1 c2 c3 h hS
  · exact rr_wl (c := d) (i := j) (d := c) (j := i) d1 c1 d2 d3 (by omega) (by rcases hS with h | h | h; exact Or.inl (by omega); exact Or.inr (Or.inr h); exact Or.inr (Or.inl h))
/-- floats added: by way of doubles -/
theorem fadd_X {s t : Bool} {n m : Nat} (hn : gRep n) (hm : gRep m) : FP.fadd (gX s n) (gX t m) = FP.d2f (FP.dadd (FP.f2d (gX s n)) (FP.f2d (gX t m))) := by
  rw [gX_f2d hn, gX_f2d hm]
  obtain ⟨c, q, a1, a2, a3⟩ := gN_v (gX_N (s := s) hn)
  obtain ⟨d, r, b1, b2, b3⟩ := gN_v (gX_N (s := t) hm)
  obtain ⟨c', q', a4, a5, a6⟩ := fN_v (fX_N (s := s) (gRep_f hn))
  obtain ⟨d', r', b4, b5, b6⟩ := fN_v (fX_N (s := t) (gRep_f hm))
  have ha := gitsI.mp a1
  have hb := gitsI.mp b1
  have ha' := fitsI.mp a4
  have hb' := fitsI.mp b4
  obtain ⟨V1, e1, E1, k1, V1e⟩ := exs (s := s) (t := t) a3 b3 (by omega) (by omega)
  obtain ⟨V2, e2, E2, k2, V2e⟩ := exs (s := s) (t := t) a6 b6 (by omega) (by omega)
  obtain ⟨U, eU⟩ : ∃ U : Int, FP.Core.signed s n + FP.Core.signed t m = U := ⟨_, rfl⟩
  have hU2 : FP.Core.signed s (n * 2 ^ 925) + FP.Core.signed t (m * 2 ^ 925) = U * ((2 ^ 925 : Nat) : Int) := by rw [sgd_mul, sgd_mul, ← Int.add_mul, eU]
  rw [eU] at V1e
  rw [hU2] at V2e
  have g1 : FP.Core.sumSign s t V1 = FP.Core.sumSign s t U := by rw [← V1e, sgn_sc (Nat.two_pow_pos _)]
  have g2 : FP.Core.sumSign s t V2 = FP.Core.sumSign s t U := by rw [← sgn_sc (V := V2) (Nat.two_pow_pos (e2 + 1074).toNat), V2e, sgn_sc (Nat.two_pow_pos _)]
  have n1 : V1.natAbs * 2 ^ (e1 + 149).toNat = U.natAbs := by rw [← V1e, Int.natAbs_mul, Int.natAbs_natCast]
  have n2 : V2.natAbs * 2 ^ (e2 + 1074).toNat = U.natAbs * 2 ^ 925 := by
    have := congrArg Int.natAbs V2e
    rw [Int.natAbs_mul, Int.natAbs_mul, Int.natAbs_natCast, Int.natAbs_natCast] at this; exact this
  have r1 : FP.Core.roundRatio FP.Core.b32 (FP.Core.sumSign s t V1) V1.natAbs 1 e1 = FP.Core.roundRatio FP.Core.b32 (FP.Core.sumSign s t U) U.natAbs 1 (-149) := by
    rw [g1]; exact rnd_val (K := 149) k1 (by decide) (by rw [n1]; exact (Nat.mul_one _).symm)
  have r2 : FP.Core.roundRatio FP.Core.b64 (FP.Core.sumSign s t V2) V2.natAbs 1 e2 = FP.Core.roundRatio FP.Core.b64 (FP.Core.sumSign s t U) U.natAbs 1 (-149) := by
    rw [g2]; exact rnd_val (K := 1074) k2 (by decide) n2
  obtain ⟨c9, q9, f9, R9, S9⟩ := rr_sum (s := s) (t := t) (u := FP.Core.sumSign s t U) hn hm
  rw [eU] at R9 S9
  have hL : FP.fadd (gX s n) (gX t m) = UInt32.ofNat (FP.Core.encode FP.Core.b32 (FP.Core.roundRatio FP.Core.b32 (FP.Core.sumSign s t U) U.natAbs 1 (-149))) := by
    show UInt32.ofNat (FP.Core.encode FP.Core.b32 (FP.Core.round FP.Core.b32 (FP.Core.exactSum (v32 (gX s n)) (v32 (gX t m))))) = _
    rw [a2, b2, E1]
    show UInt32.ofNat (FP.Core.encode FP.Core.b32 (FP.Core.roundRatio FP.Core.b32 (FP.Core.sumSign s t V1) V1.natAbs 1 e1)) = _
    rw [r1]
  have hD : FP.dadd (fX s (n * 2 ^ 925)) (fX t (m * 2 ^ 925)) = UInt64.ofNat (fB (FP.Core.sumSign s t U) c9 q9) := by
    show UInt64.ofNat (FP.Core.encode FP.Core.b64 (FP.Core.round FP.Core.b64 (FP.Core.exactSum (v64 (fX s (n * 2 ^ 925))) (v64 (fX t (m * 2 ^ 925)))))) = _
    rw [a5, b5, E2]
    show UInt64.ofNat (FP.Core.encode FP.Core.b64 (FP.Core.roundRatio FP.Core.b64 (FP.Core.sumSign s t V2) V2.natAbs 1 e2)) = _
    rw [r2, R9, enc64]
  have hv : v64 (UInt64.ofNat (fB (FP.Core.sumSign s t U) c9 q9)) = .fin (FP.Core.sumSign s t U) c9 q9 := by
    show FP.Core.decode FP.Core.b64 (UInt64.ofNat (fB (FP.Core.sumSign s t U) c9 q9)).toNat = _
    rw [show (UInt64.ofNat (fB (FP.Core.sumSign s t U) c9 q9)).toNat = fB (FP.Core.sumSign s t U) c9 q9 from UInt64.toNat_ofNat_of_lt (dec_fB f9).2]
    exact (dec_fB f9).1
  rw [hL, hD]
  unfold FP.d2f
  rw [show FP.Core.dIsNaN (UInt64.ofNat (fB (FP.Core.sumSign s t U) c9 q9)) = false from by show decide (v64 (UInt64.ofNat (fB (FP.Core.sumSign s t U) c9 q9)) = .nan) = false; rw [hv]; simp]
  show _ = UInt32.ofNat (FP.Core.encode FP.Core.b32 (FP.Core.round FP.Core.b32 (v64 (UInt64.ofNat (fB (FP.Core.sumSign s t U) c9 q9)))))
  rw [hv]
  show _ = UInt32.ofNat (FP.Core.encode FP.Core.b32 (FP.Core.roundRatio FP.Core.b32 (FP.Core.sumSign s t U) c9 1 q9))
  rw [S9]
/-- .. endless ones too, where they don't meet -/
theorem fadd_dd {a b : UInt32} (ha : vf_n32 a) (hb : vf_n32 b) (h : ¬ ((a = infG false ∧ b = infG true) ∨ (a = infG true ∧ b = infG false))) : FP.fadd a b = FP.d2f (FP.dadd (FP.f2d a) (FP.f2d b)) := by
  have v32i : ∀ s : Bool, v32 (infG s) = .inf s := fun s => by cases s <;> decide +kernel
  obtain ⟨s, n, hn, rfl⟩ := gZ_of ha
  obtain ⟨t, m, hm, rfl⟩ := gZ_of hb
  rcases hn with hn | hn
  · have e1 : gZ s n = infG s := by unfold gZ; rw [if_pos hn]
    rw [e1] at h ⊢
    rcases hm with hm | hm
    · have e2 : gZ t m = infG t := by unfold gZ; rw [if_pos hm]
      rw [e2] at h ⊢
      cases s <;> cases t <;> first | exact absurd (Or.inl ⟨rfl, rfl⟩) h | exact absurd (Or.inr ⟨rfl, rfl⟩) h | decide +kernel
    · obtain ⟨d, r, b1, b2, b3⟩ := gN_v (gX_N (s := t) hm)
      obtain ⟨d', r', b4, b5, b6⟩ := fN_v (fX_N (s := t) (gRep_f hm))
      rw [gZ_X hm, gX_f2d hm, f2d_inf]
      have hD : FP.dadd (infB s) (fX t (m * 2 ^ 925)) = infB s := by
        show UInt64.ofNat (FP.Core.encode FP.Core.b64 (FP.Core.round FP.Core.b64 (FP.Core.exactSum (v64 (infB s)) (v64 (fX t (m * 2 ^ 925)))))) = _
        rw [v64_inf, b5]
        show UInt64.ofNat (FP.Core.encode FP.Core.b64 (.inf s)) = infB s
        cases s <;> decide +kernel
      rw [hD, d2f_inf]
      show UInt32.ofNat (FP.Core.encode FP.Core.b32 (FP.Core.round FP.Core.b32 (FP.Core.exactSum (v32 (infG s)) (v32 (gX t m))))) = _
      rw [v32i, b2]
      show UInt32.ofNat (FP.Core.encode FP.Core.b32 (.inf s)) = infG s
      cases s <;> decide +kernel
  · rcases hm with hm | hm
    · have e2 : gZ t m = infG t := by unfold gZ; rw [if_pos hm]
      obtain ⟨d, r, b1, b2, b3⟩ := gN_v (gX_N (s := s) hn)
      obtain ⟨d', r', b4, b5, b6⟩ := fN_v (fX_N (s := s) (gRep_f hn))
      rw [e2, gZ_X hn, gX_f2d hn, f2d_inf]
      have hD : FP.dadd (fX s (n * 2 ^ 925)) (infB t) = infB t := by
        show UInt64.ofNat (FP.Core.encode FP.Core.b64 (FP.Core.round FP.Core.b64 (FP.Core.exactSum (v64 (fX s (n * 2 ^ 925))) (v64 (infB t))))) = _
        rw [v64_inf, b5]
        show UInt64.ofNat (FP.Core.encode FP.Core.b64 (.inf t)) = infB t
        cases t <;> decide +kernel
      rw [hD, d2f_inf]
      show UInt32.ofNat (FP.Core.encode FP.Core.b32 (FP.Core.round FP.Core.b32 (FP.Core.exactSum (v32 (gX s n)) (v32 (infG t))))) = _
      rw [v32i, b2]
      show UInt32.ofNat (FP.Core.encode FP.Core.b32 (.inf t)) = infG t
      cases t <;> decide +kernel
    · rw [gZ_X hn, gZ_X hm]; exact fadd_X hn hm

