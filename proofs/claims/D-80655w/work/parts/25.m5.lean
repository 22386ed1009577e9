/-! ===== the Model: meet, letter, members, things ===== -/
theorem iI_div10 {x : Int} (h0 : 0 ≤ x) (h1 : x < 60) : iI x / iI 10 = iI (x / 10) := by
  obtain ⟨n, rfl⟩ := Int.eq_ofNat_of_zero_le h0
  have h : ∀ k : Fin 60, iI ((k : Nat) : Int) / iI 10 = iI (((k : Nat) : Int) / 10) := by decide
  exact h ⟨n, by omega⟩
theorem iI_rem10 {x : Int} (h0 : 0 ≤ x) (h1 : x < 60) : iI x - iI x / iI 10 * iI 10 = iI (x % 10) := by
  obtain ⟨n, rfl⟩ := Int.eq_ofNat_of_zero_le h0
  have h : ∀ k : Fin 60, iI ((k : Nat) : Int) - iI ((k : Nat) : Int) / iI 10 * iI 10 = iI (((k : Nat) : Int) % 10) := by decide
  exact h ⟨n, by omega⟩
theorem inL_zlandd (a b : Int) : inL (zlandd a b) := ⟨Int64.le_toInt _, Int64.toInt_le _⟩
theorem inL_zlorr (a b : Int) : inL (zlorr a b) := ⟨Int64.le_toInt _, Int64.toInt_le _⟩
def firstN (p : Nat → Bool) : Nat → Nat
  | 0 => 0
  | n + 1 => if p 0 then 0 else firstN (fun k => p (k + 1)) n + 1
theorem firstN_at : ∀ {n k : Nat} {p : Nat → Bool}, k < n → p k = true → (∀ j, j < k → p j = false) → firstN p n = k
  | 0, _, _, h, _, _ => absurd h (Nat.not_lt_zero _)
  | n + 1, 0, p, _, h2, _ => by unfold firstN; rw [if_pos h2]
  | n + 1, k + 1, p, h1, h2, h3 => by
    unfold firstN
    rw [if_neg (by rw [h3 0 (Nat.succ_pos _)]; decide), firstN_at (Nat.lt_of_succ_lt_succ h1) h2 fun j hj => h3 (j + 1) (Nat.succ_lt_succ hj)]
def cntN (p : Nat → Bool) : Nat → Nat
  | 0 => 0
  | n + 1 => cntN p n + (if p n then 1 else 0)
theorem cntN_le {p : Nat → Bool} {k n : Nat} (h : k ≤ n) : cntN p k ≤ cntN p n := by
  induction n with
  | zero => rw [Nat.le_zero.mp h]; exact Nat.le_refl _
  | succ n ih =>
    by_cases e : k = n + 1
    · rw [e]; exact Nat.le_refl _
    · have := ih (by omega); simp only [cntN]; omega
theorem cntN_u {p : Nat → Bool} {j k : Nat} (hj : p j = true) (hk : p k = true) (h : cntN p j = cntN p k) : j = k := by
  rcases Nat.lt_trichotomy j k with hl | hl | hl
  · have := cntN_le (p := p) (show j + 1 ≤ k from hl); simp only [cntN, hj] at this; simp at this; omega
  · exact hl
  · have := cntN_le (p := p) (show k + 1 ≤ j from hl); simp only [cntN, hk] at this; simp at this; omega
def mtK (w : mW) (a b : Int) : Nat := firstN (fun k => isa w b (w 9 (60 * a + k))) (w 10 a).toNat
def mtI (w : mW) (a b : Int) : Int := if !rfB w a || !rfB w b then -1 else w 9 (60 * a + mtK w a b)
def bsF (w : mW) : Nat → Int → Int
  | 0, t => t
  | n + 1, t => if w 1 t = 4 then bsF w n (w 4 t) else t
def dpF (w : mW) : Nat → Int → Int
  | 0, _ => 0
  | n + 1, t => if w 1 t = 4 then dpF w n (w 4 t) + 1 else 0
theorem bsF_f {w : mW} (hS : mS w) : ∀ (n m : Nat) (t : Int), 0 ≤ t → t < w 0 0 → t < n → t < m → bsF w n t = bsF w m t ∧ dpF w n t = dpF w m t
  | 0, _, t, h0, _, h2, _ => by omega
  | _, 0, t, h0, _, _, h3 => by omega
  | n + 1, m + 1, t, h0, h1, h2, h3 => by
    obtain ⟨a1, a2, a3, a4, a5, a6, a7, a8⟩ := hS.T h0 h1
    simp only [bsF, dpF]
    by_cases e : w 1 t = 4
    · have := bsF_f hS n m (w 4 t) (a4.2.2 e) (by omega) (by omega) (by omega)
      rw [if_pos e, if_pos e, if_pos e, if_pos e, this.1, this.2]; exact ⟨rfl, rfl⟩
    · rw [if_neg e, if_neg e, if_neg e, if_neg e]; exact ⟨rfl, rfl⟩
def bsI (w : mW) (t : Int) : Int := bsF w (t.toNat + 1) t
def dpI (w : mW) (t : Int) : Int := dpF w (t.toNat + 1) t
theorem bs_row {w : mW} (hS : mS w) {t : Int} (h0 : 0 ≤ t) (h1 : t < w 0 0) (h : w 1 t = 4) : bsI w t = bsI w (w 4 t) ∧ dpI w t = dpI w (w 4 t) + 1 := by
  obtain ⟨a1, a2, a3, a4, a5, a6, a7, a8⟩ := hS.T h0 h1
  have := bsF_f hS t.toNat ((w 4 t).toNat + 1) (w 4 t) (a4.2.2 h) (by omega) (by omega) (by omega)
  unfold bsI dpI
  rw [← this.1, ← this.2]
  simp only [bsF, dpF]
  rw [if_pos h, if_pos h]; exact ⟨rfl, rfl⟩
theorem bs_no {w : mW} {t : Int} (h : w 1 t ≠ 4) : bsI w t = t ∧ dpI w t = 0 := by
  unfold bsI dpI
  simp only [bsF, dpF]
  rw [if_neg h, if_neg h]; exact ⟨rfl, rfl⟩
theorem bs_in {w : mW} (hS : mS w) : ∀ (n : Nat) (t : Int), 0 ≤ t → t < w 0 0 → t < n → (0 ≤ bsI w t ∧ bsI w t ≤ t) ∧ (0 ≤ dpI w t ∧ dpI w t ≤ t) ∧ w 1 (bsI w t) ≠ 4
  | 0, t, h0, _, h2 => by omega
  | n + 1, t, h0, h1, h2 => by
    obtain ⟨a1, a2, a3, a4, a5, a6, a7, a8⟩ := hS.T h0 h1
    by_cases e : w 1 t = 4
    · obtain ⟨e1, e2⟩ := bs_row hS h0 h1 e
      have := bs_in hS n (w 4 t) (a4.2.2 e) (by omega) (by omega)
      rw [e1, e2]; exact ⟨by omega, by omega, this.2.2⟩
    · obtain ⟨e1, e2⟩ := bs_no e
      rw [e1, e2]; exact ⟨by omega, by omega, e⟩
/-- a letter of the name of a type: its depth of rows, its base -/
def fgI (t : Int) : Int := if 9 < t then 2 else 1
def lenI (d t : Int) : Int := if t < 8 then d + 1 else d + 2 + fgI t
def ltC (d t i : Int) : Int :=
  if i = -1 then lenI d t else if lenI d t ≤ i then -1 else if i < d then 91
  else if t < 8 then (if t = 0 then 90 else if t = 1 then 67 else if t = 2 then 66 else if t = 3 then 83 else if t = 4 then 73 else if t = 5 then 74 else if t = 6 then 70 else 68)
  else if i - d = 0 then 76 else if i - d = fgI t + 1 then 59 else if i - d = 1 ∧ fgI t = 2 then 48 + t / 10 else 48 + t % 10
def ltI (w : mW) (t i : Int) : Int := if !tyB w t || decide (i < -1) then -1 else ltC (dpI w t) (bsI w t) i
def dclP (w : mW) (t i : Int) : Nat → Bool := fun m => decide (w 13 m = t) && decide ((cntN (fun j => decide (w 13 j = t)) m : Int) = i)
def dclI (w : mW) (t i : Int) : Int := if !tyB w t || decide (i < 0) then -1 else lastN (dclP w t i) (w 11 0).toNat
theorem dcl_t {w : mW} {t i : Int} {m : Nat} (hm : (m : Int) < w 11 0) (h1 : w 13 m = t) (h2 : i - (cntN (fun j => decide (w 13 j = t)) m : Nat) = 0) : lastN (dclP w t i) (w 11 0).toNat = m := by
  refine lastN_u (by omega) (by unfold dclP; simp; omega) ?_
  intro j hj hp
  unfold dclP at hp
  simp at hp
  exact cntN_u (p := fun j => decide (w 13 j = t)) (by simp; exact hp.1) (by simp; exact h1) (by omega)
theorem dcl_n {w : mW} {t i : Int} (h : (cntN (fun j => decide (w 13 j = t)) (w 11 0).toNat : Int) ≤ i) : lastN (dclP w t i) (w 11 0).toNat = -1 := by
  rw [lastN_n]
  intro k hk
  unfold dclP
  by_cases e : w 13 k = t
  · have := cntN_le (p := fun j => decide (w 13 j = t)) (show k + 1 ≤ (w 11 0).toNat by omega)
    simp only [cntN] at this
    simp [e] at this ⊢
    omega
  · simp [e]
def slR (w : mW) (s a b : Int) : Bool := slB s && decide (0 ≤ a ∧ a ≤ 8) && ftB w a b
def clrB (w : mW) (t : Int) : Bool := rfB w t && decide (w 1 t ≠ 4)
def dW (w : mW) (t n k y : Int) (f : Bool) : mW :=
  mset (mset (mset (mset (mset (mset (mset (mset (mset (mset (mset w 11 0 (w 11 0 + 1)) 13 (w 11 0) t) 14 (w 11 0) n) 15 (w 11 0) k) 17 (w 11 0) y) 16 (w 11 0) (bI f)) 18 (w 11 0) 0) 20 (w 11 0) 0) 21 (w 11 0) 0) 22 (w 11 0) 0) 26 (w 11 0) (noneI y)
theorem noneI_L (y : Int) : inL (noneI y) := by unfold noneI inL; split <;> decide
theorem dW_wf {w : mW} {t n k y : Int} {f : Bool} (hw : mWF w) (h1 : inR t) (h2 : inR n) (h3 : inR k) (h4 : inR y) (hm : 0 ≤ w 11 0 ∧ w 11 0 < 100) : mWF (dW w t n k y f) :=
  ((((((((((hw.set ⟨by omega, by omega⟩ rfl).set h1 rfl).set h2 rfl).set h3 rfl).set h4 rfl).setB (bI_01 _)).set ⟨by decide, by decide⟩ rfl).setB (Or.inl rfl)).setB (Or.inl rfl)).set ⟨by decide, by decide⟩ rfl).setL (noneI_L _) rfl rfl
def fiB (w : mW) (t n k y : Int) : Bool := dcB w t && decide (0 ≤ n ∧ n ≤ 19) && decide (0 ≤ k ∧ k ≤ 15) && (decide (w 1 t ≠ 3) || decide (k = 13)) && tyB w y
def fiN (w : mW) (t n k : Int) : Bool := decide (ofI w t n ≠ -1) || (decide (zand k 4 = 0) && ccB w t)
def fiI (w : mW) (t n k y : Int) : Int := if !fiB w t n k y then -1 else if fiN w t n k then -2 else if w 11 0 = 100 then -3 else w 11 0
def fiO (w : mW) (t n k y : Int) : Bool := fiB w t n k y && !fiN w t n k && decide (w 11 0 ≠ 100)
def fiW (w : mW) (t n k y : Int) : mW := if fiO w t n k y then dW (mset w 12 0 (w 12 0 + 1)) t n k y true else w
def mbeB (w : mW) (t k : Int) : Bool := decide (0 ≤ k ∧ k ≤ 31) && !(decide (zand k 16 ≠ 0) && (decide (w 1 t = 1) || decide (zand k 12 ≠ 0) || decide (zand k 3 = 2))) && (decide (w 1 t ≠ 3) || ((decide (zand k 3 = 1) || decide (zand k 3 = 2)) && decide (zand k 8 = 0)))

set_option maxRecDepth 100000 in
theorem k7_meet {l : Launch} {θ : zTh} {N : zMap} {am : Nat} {ar : Nat → Nat} {w : mW} (hD : mDis am ar) (hw : mWF w) (a : Int) (b : Int) (r_a : inR a) (r_b : inR b) (hS : mS w) (hm : 8 ≤ a ∧ a < w 0 0 → 8 ≤ b ∧ b < w 0 0 → ∃ K : Nat, (K : Int) < w 10 a ∧ isa w b (w 9 (60 * a + K)) = true) : ZF θ l yX7_meet cX7_meet 4 (some .int) ⟨3, 0, 0, 67⟩ [.ref (am), .int (iI (a)), .int (iI (b))] (mP θ am ar w N) (some (.int (iI (mtI w a b)))) (mP θ am ar w N) := by
  refine z_start (own := RX7) (nm := "meet") pnX7 rfl rfl (Nat.le_of_ble_eq_true rfl) ?_
  intro κ hκ hκl C
  change Z κ (mP θ am ar w N) 0 0 0 [(0, .ref (am)), (1, .int (iI (a))), (2, .int (iI (b)))] []
  have hB := hS.B
  obtain ⟨hB1, hB2, hB3, hB4, hB5, hB6⟩ := hS.B
  have hC := hS.C
  refine z_aload_n C 1 0 dX7_meet_0 rfl rfl ?_
  refine z_iload_n C 2 1 dX7_meet_1 rfl rfl ?_
  refine z_callVF (n' := 0) (k' := 0) (As := [.int (iI (a))]) (rest := []) C hκ hκl 5 (k7_isReference hD hw (a) r_a hB) dX7_meet_2 q2220 q2222 qs46 q97 q2223 znX7_isReference (Nat.le_of_ble_eq_true rfl) (Nat.le_of_ble_eq_true rfl) (Nat.le_of_ble_eq_true rfl) (Nat.le_of_ble_eq_true rfl) mrec rfl rfl (Nat.le_of_ble_eq_true rfl) rfl rfl rfl ?_
  refine z_ifB_eq C 16 8 dX7_meet_5 (by decide) rfl (fun c1 => ?_) (fun c1 => ?_)
  · skip
    have c1b : ¬ (8 ≤ (a) ∧ (a) < w 0 0) := of_decide_eq_false c1
    refine z_iconst C 17 dX7_meet_16 rfl ?_
    exact z_iret C dX7_meet_17 rfl (Nat.le_of_ble_eq_true rfl) (Nat.le_of_ble_eq_true rfl) ⟨congrArg (fun z => some (Value.int (iI z))) (by unfold mtI; simp_all), rfl⟩
  · skip
    have c1b : (8 ≤ (a) ∧ (a) < w 0 0) := of_decide_eq_true c1
    refine z_aload_n C 9 0 dX7_meet_8 rfl rfl ?_
    refine z_iload_n C 10 2 dX7_meet_9 rfl rfl ?_
    refine z_callVF (n' := 0) (k' := 0) (As := [.int (iI (b))]) (rest := []) C hκ hκl 13 (k7_isReference hD hw (b) r_b hB) dX7_meet_10 q2220 q2222 qs46 q97 q2223 znX7_isReference (Nat.le_of_ble_eq_true rfl) (Nat.le_of_ble_eq_true rfl) (Nat.le_of_ble_eq_true rfl) (Nat.le_of_ble_eq_true rfl) mrec rfl rfl (Nat.le_of_ble_eq_true rfl) rfl rfl rfl ?_
    refine z_ifB_ne C 18 16 dX7_meet_13 (by decide) rfl (fun c2 => ?_) (fun c2 => ?_)
    · skip
      have c2b : (8 ≤ (b) ∧ (b) < w 0 0) := of_decide_eq_true c2
      obtain ⟨K, hK1, hK2⟩ := hm (by omega) (by omega)
      refine z_iconst C 19 dX7_meet_18 rfl ?_
      refine z_istore_n (lv' := [(0, .ref (am)), (1, .int (iI (a))), (2, .int (iI (b))), (3, .int (iI (0)))]) C 20 [1, 2, 3, 0] dX7_meet_19 (by decide) rfl rfl ?_
      have L20_3 : ∀ (fu : Nat) (k : Nat) (hk : k ≤ K) (hj : ∀ j : Nat, j < k → isa w b (w 9 (60 * a + j)) = false) (hme : K - k < fu), Z κ (mP θ am ar w N) 0 0 20 [(0, .ref (am)), (1, .int (iI (a))), (2, .int (iI (b))), (3, .int (iI ((k : Int))))] [] := by
        intro fu
        induction fu with
        | zero => intro k hk hj hme; exact absurd hme (Nat.not_lt_zero _)
        | succ fu ih4 =>
          intro k hk hj hme
          have hj0 := hj
          have hx : 0 ≤ w 10 a ∧ w 10 a ≤ 60 := (hS.T (by omega) (by omega)).2.2.2.2.1
          have hy := (hS.T (show 0 ≤ a by omega) (by omega)).2.2.2.2.2.1 k (by omega) (by omega)
          refine z_aload_n C 21 0 dX7_meet_20 rfl rfl ?_
          refine z_iload_n C 22 2 dX7_meet_21 rfl rfl ?_
          refine z_aload_n C 23 0 dX7_meet_22 rfl rfl ?_
          refine m_geta C hκ 26 9 (by decide) rfl q2004 rfl dX7_meet_23 rfl ?_
          refine z_bipush C 28 dX7_meet_26 (by decide) rfl ?_
          refine z_iload_n C 29 1 dX7_meet_28 rfl rfl ?_
          refine z_imul C 30 dX7_meet_29 rfl ?_
          refine z_iload_n C 31 3 dX7_meet_30 rfl rfl ?_
          refine z_iadd C 32 dX7_meet_31 rfl ?_
          refine m_iald (len := 3600) C hκ hD 33 9 (by decide) rfl rfl (by omega) (by omega) dX7_meet_32 rfl ?_
          refine z_callVF (n' := 0) (k' := 0) (As := [.int (iI (b)), .int (iI (w 9 (((60) * (a)) + ((k : Int)))))]) (rest := []) C hκ hκl 36 (k7_isOne hD hw (b) (w 9 (((60) * (a)) + ((k : Int)))) r_b (hw.r _ _ rfl) (by omega) (by omega)) dX7_meet_33 q2197 q2199 qs44 q97 q2200 znX7_isOne (Nat.le_of_ble_eq_true rfl) (Nat.le_of_ble_eq_true rfl) (Nat.le_of_ble_eq_true rfl) (Nat.le_of_ble_eq_true rfl) mrec rfl rfl (Nat.le_of_ble_eq_true rfl) rfl rfl rfl ?_
          refine z_ifB_ne C 45 39 dX7_meet_36 (by decide) rfl (fun c5 => ?_) (fun c5 => ?_)
          · skip
            refine z_aload_n C 46 0 dX7_meet_45 rfl rfl ?_
            refine m_geta C hκ 49 9 (by decide) rfl q2004 rfl dX7_meet_46 rfl ?_
            refine z_bipush C 51 dX7_meet_49 (by decide) rfl ?_
            refine z_iload_n C 52 1 dX7_meet_51 rfl rfl ?_
            refine z_imul C 53 dX7_meet_52 rfl ?_
            refine z_iload_n C 54 3 dX7_meet_53 rfl rfl ?_
            refine z_iadd C 55 dX7_meet_54 rfl ?_
            refine m_iald (len := 3600) C hκ hD 56 9 (by decide) rfl rfl (by omega) (by omega) dX7_meet_55 rfl ?_
            exact z_iret C dX7_meet_56 rfl (Nat.le_of_ble_eq_true rfl) (Nat.le_of_ble_eq_true rfl) ⟨congrArg (fun z => some (Value.int (iI z))) (by unfold mtI mtK; rw [if_neg (by simp_all), firstN_at (k := k) (by omega) (by assumption) hj]), rfl⟩
          · skip
            refine z_iinc (lv' := [(0, .ref (am)), (1, .int (iI (a))), (2, .int (iI (b))), (3, .int (iI (((k : Int)) + 1)))]) C 42 3 [1, 2, 3, 0] dX7_meet_39 rfl (by decide) rfl rfl ?_
            refine z_goto C 20 dX7_meet_42 (by decide) ?_
            have hkK : k + 1 ≤ K := (by rcases Nat.lt_or_eq_of_le hk with h | h; exact h; subst h; simp_all)
            refine z_as (lv' := [(0, .ref (am)), (1, .int (iI (a))), (2, .int (iI (b))), (3, .int (iI (((k + 1) : Int))))]) rfl rfl rfl ?_
            exact ih4 (k + 1) hkK (fun j hj => (Nat.lt_or_eq_of_le (Nat.le_of_lt_succ hj)).elim (hj0 j) (fun h => by rw [h]; assumption)) (by omega)
      refine z_as (lv' := [(0, .ref (am)), (1, .int (iI (a))), (2, .int (iI (b))), (3, .int (iI (((0) : Int))))]) rfl rfl rfl ?_
      exact L20_3 _ (0) (by omega) (fun j hj => absurd hj (Nat.not_lt_zero _)) (Nat.lt_succ_self _)
    · skip
      have c2b : ¬ (8 ≤ (b) ∧ (b) < w 0 0) := of_decide_eq_false c2
      refine z_iconst C 17 dX7_meet_16 rfl ?_
      exact z_iret C dX7_meet_17 rfl (Nat.le_of_ble_eq_true rfl) (Nat.le_of_ble_eq_true rfl) ⟨congrArg (fun z => some (Value.int (iI z))) (by unfold mtI; simp_all), rfl⟩
set_option maxRecDepth 100000 in
theorem k7_letter {l : Launch} {θ : zTh} {N : zMap} {am : Nat} {ar : Nat → Nat} {w : mW} (hD : mDis am ar) (hw : mWF w) (t : Int) (i : Int) (r_t : inR t) (r_i : inR i) (hS : mS w)  : ZF θ l yX7_letter cX7_letter 8 (some .int) ⟨2, 0, 0, 46⟩ [.ref (am), .int (iI (t)), .int (iI (i))] (mP θ am ar w N) (some (.int (iI (ltI w t i)))) (mP θ am ar w N) := by
  refine z_start (own := RX7) (nm := "letter") pnX7 rfl rfl (Nat.le_of_ble_eq_true rfl) ?_
  intro κ hκ hκl C
  change Z κ (mP θ am ar w N) 0 0 0 [(0, .ref (am)), (1, .int (iI (t))), (2, .int (iI (i)))] []
  have hB := hS.B
  obtain ⟨hB1, hB2, hB3, hB4, hB5, hB6⟩ := hS.B
  have hC := hS.C
  refine z_aload_n C 1 0 dX7_letter_0 rfl rfl ?_
  refine z_iload_n C 2 1 dX7_letter_1 rfl rfl ?_
  refine z_callVF (n' := 0) (k' := 0) (As := [.int (iI (t))]) (rest := []) C hκ hκl 5 (k7_isType hD hw (t) r_t hB) dX7_letter_2 q2160 q2162 qs40 q97 q2163 znX7_isType (Nat.le_of_ble_eq_true rfl) (Nat.le_of_ble_eq_true rfl) (Nat.le_of_ble_eq_true rfl) (Nat.le_of_ble_eq_true rfl) mrec rfl rfl (Nat.le_of_ble_eq_true rfl) rfl rfl rfl ?_
  refine z_ifB_eq C 13 8 dX7_letter_5 (by decide) rfl (fun c1 => ?_) (fun c1 => ?_)
  · skip
    have c1b : ¬ (0 ≤ (t) ∧ (t) < w 0 0) := of_decide_eq_false c1
    refine z_iconst C 14 dX7_letter_13 rfl ?_
    exact z_iret C dX7_letter_14 rfl (Nat.le_of_ble_eq_true rfl) (Nat.le_of_ble_eq_true rfl) ⟨congrArg (fun z => some (Value.int (iI z))) (by unfold ltI; simp_all), rfl⟩
  · skip
    have c1b : (0 ≤ (t) ∧ (t) < w 0 0) := of_decide_eq_true c1
    refine z_iload_n C 9 2 dX7_letter_8 rfl rfl ?_
    refine z_iconst C 10 dX7_letter_9 rfl ?_
    refine z_icmp_ge C 15 13 dX7_letter_10 (by decide) r_i ⟨by decide, by decide⟩ rfl (fun c2 => ?_) (fun c2 => ?_)
    · skip
      refine z_iload_n C 16 1 dX7_letter_15 rfl rfl ?_
      refine z_istore_n (lv' := [(0, .ref (am)), (1, .int (iI (t))), (2, .int (iI (i))), (3, .int (iI (t)))]) C 17 [1, 2, 3, 0] dX7_letter_16 (by decide) rfl rfl ?_
      refine z_iconst C 18 dX7_letter_17 rfl ?_
      refine z_istore (lv' := [(0, .ref (am)), (1, .int (iI (t))), (2, .int (iI (i))), (3, .int (iI (t))), (4, .int (iI (0)))]) C 20 [1, 2, 3, 4, 0] dX7_letter_18 (by decide) rfl rfl ?_
      have L20_3 : ∀ (fu : Nat) (u : Int) (d : Nat) (hu : 0 ≤ u ∧ u ≤ t ∧ (d : Int) ≤ t) (hd : bsI w t = bsI w u ∧ dpI w t = (d : Int) + dpI w u) (hme : u.toNat < fu), Z κ (mP θ am ar w N) 0 0 20 [(0, .ref (am)), (1, .int (iI (t))), (2, .int (iI (i))), (3, .int (iI (u))), (4, .int (iI ((d : Int))))] [] := by
        intro fu
        induction fu with
        | zero => intro u d hu hd hme; exact absurd hme (Nat.not_lt_zero _)
        | succ fu ih4 =>
          intro u d hu hd hme
          refine z_aload_n C 21 0 dX7_letter_20 rfl rfl ?_
          refine m_geta C hκ 24 1 (by decide) rfl q1996 rfl dX7_letter_21 rfl ?_
          refine z_iload_n C 25 3 dX7_letter_24 rfl rfl ?_
          obtain ⟨f5a, f5b, f5c, f5d, f5e, f5f, f5g, f5h⟩ := hS.T (show 0 ≤ u by omega) (by omega)
          refine m_iald (len := 60) C hκ hD 26 1 (by decide) rfl rfl (by omega) (by omega) dX7_letter_25 rfl ?_
          refine z_iconst C 27 dX7_letter_26 rfl ?_
          refine z_icmp_ne C 43 30 dX7_letter_27 (by decide) (hw.r _ _ rfl) ⟨by decide, by decide⟩ rfl (fun c6 => ?_) (fun c6 => ?_)
          · skip
            obtain ⟨v1, v2⟩ := bs_no (by assumption : ¬ w 1 u = 4)
            rw [v1, v2] at hd
            have L78_7 : ∀ (fu : Nat)  (hlen : (u < 8 → lenI d u = d + 1) ∧ (8 ≤ u → lenI d u = d + 2 + fgI u) ∧ (9 < u → fgI u = 2) ∧ (u ≤ 9 → fgI u = 1)) (hme : 0 < fu), Z κ (mP θ am ar w N) 0 0 78 [(0, .ref (am)), (1, .int (iI (t))), (2, .int (iI (i))), (3, .int (iI (u))), (4, .int (iI ((d : Int)))), (5, .int (iI (fgI u))), (6, .int (iI (lenI d u)))] [] := by
              intro fu
              induction fu with
              | zero => intro hlen hme; exact absurd hme (Nat.not_lt_zero _)
              | succ fu ih8 =>
                intro hlen hme
                refine z_iload_n C 79 2 dX7_letter_78 rfl rfl ?_
                refine z_iconst C 80 dX7_letter_79 rfl ?_
                refine z_icmp_ne C 86 83 dX7_letter_80 (by decide) r_i ⟨by decide, by decide⟩ rfl (fun c9 => ?_) (fun c9 => ?_)
                · skip
                  refine z_iload_n C 87 2 dX7_letter_86 rfl rfl ?_
                  refine z_iload C 89 6 dX7_letter_87 rfl rfl ?_
                  refine z_icmp_lt C 94 92 dX7_letter_89 (by decide) r_i ⟨by omega, by omega⟩ rfl (fun c10 => ?_) (fun c10 => ?_)
                  · skip
                    refine z_iload_n C 95 2 dX7_letter_94 rfl rfl ?_
                    refine z_iload C 97 4 dX7_letter_95 rfl rfl ?_
                    refine z_icmp_ge C 103 100 dX7_letter_97 (by decide) r_i ⟨by omega, by omega⟩ rfl (fun c11 => ?_) (fun c11 => ?_)
                    · skip
                      refine z_iload_n C 104 2 dX7_letter_103 rfl rfl ?_
                      refine z_iload C 106 4 dX7_letter_104 rfl rfl ?_
                      refine z_isub C 107 dX7_letter_106 rfl ?_
                      refine z_istore (lv' := [(0, .ref (am)), (1, .int (iI (t))), (2, .int (iI (i))), (3, .int (iI (u))), (4, .int (iI ((d : Int)))), (5, .int (iI (fgI u))), (6, .int (iI (lenI d u))), (7, .int (iI ((i) - ((d : Int)))))]) C 109 [1, 2, 3, 4, 5, 6, 7, 0] dX7_letter_107 (by decide) rfl rfl ?_
                      refine z_iload_n C 110 3 dX7_letter_109 rfl rfl ?_
                      refine z_bipush C 112 dX7_letter_110 (by decide) rfl ?_
                      refine z_icmp_ge C 188 115 dX7_letter_112 (by decide) ⟨by omega, by omega⟩ ⟨by decide, by decide⟩ rfl (fun c12 => ?_) (fun c12 => ?_)
                      · skip
                        refine z_iload C 190 7 dX7_letter_188 rfl rfl ?_
                        refine z_if_ne C 198 193 dX7_letter_190 (by decide) ⟨by omega, by omega⟩ rfl (fun c13 => ?_) (fun c13 => ?_)
                        · skip
                          refine z_iload C 200 7 dX7_letter_198 rfl rfl ?_
                          refine z_iload C 202 5 dX7_letter_200 rfl rfl ?_
                          refine z_iconst C 203 dX7_letter_202 rfl ?_
                          refine z_iadd C 204 dX7_letter_203 rfl ?_
                          refine z_icmp_ne C 212 207 dX7_letter_204 (by decide) ⟨by omega, by omega⟩ ⟨by omega, by omega⟩ rfl (fun c14 => ?_) (fun c14 => ?_)
                          · skip
                            refine z_iload C 214 7 dX7_letter_212 rfl rfl ?_
                            refine z_iconst C 215 dX7_letter_214 rfl ?_
                            refine z_icmp_ne C 234 218 dX7_letter_215 (by decide) ⟨by omega, by omega⟩ ⟨by decide, by decide⟩ rfl (fun c15 => ?_) (fun c15 => ?_)
                            · skip
                              refine z_bipush C 236 dX7_letter_234 (by decide) rfl ?_
                              refine z_iload_n C 237 3 dX7_letter_236 rfl rfl ?_
                              refine z_bipush C 239 dX7_letter_237 (by decide) rfl ?_
                              refine z_irem (z := (u) % 10) C 240 dX7_letter_239 (by decide) (iI_rem10 (by omega) (by omega)) rfl ?_
                              refine z_iadd C 241 dX7_letter_240 rfl ?_
                              exact z_iret C dX7_letter_241 rfl (Nat.le_of_ble_eq_true rfl) (Nat.le_of_ble_eq_true rfl) ⟨congrArg (fun z => some (Value.int (iI z))) (by clear C hκ hκl hS hB hB1 hB2 hB3 hB4 hB5 hB6 hC hD hw ih4 hme f5a f5b f5c f5d f5e f5f f5g f5h ih8 v1 v2; unfold ltI; rw [if_neg (by simp_all), hd.1, hd.2]; clear hd r_t r_i; unfold ltC; first | (simp [*]; done) | (simp_all; done) | (simp_all <;> omega)), rfl⟩
                            · skip
                              refine z_iload C 220 5 dX7_letter_218 rfl rfl ?_
                              refine z_iconst C 221 dX7_letter_220 rfl ?_
                              refine z_icmp_ne C 234 224 dX7_letter_221 (by decide) ⟨by omega, by omega⟩ ⟨by decide, by decide⟩ rfl (fun c16 => ?_) (fun c16 => ?_)
                              · skip
                                refine z_bipush C 236 dX7_letter_234 (by decide) rfl ?_
                                refine z_iload_n C 237 3 dX7_letter_236 rfl rfl ?_
                                refine z_bipush C 239 dX7_letter_237 (by decide) rfl ?_
                                refine z_irem (z := (u) % 10) C 240 dX7_letter_239 (by decide) (iI_rem10 (by omega) (by omega)) rfl ?_
                                refine z_iadd C 241 dX7_letter_240 rfl ?_
                                exact z_iret C dX7_letter_241 rfl (Nat.le_of_ble_eq_true rfl) (Nat.le_of_ble_eq_true rfl) ⟨congrArg (fun z => some (Value.int (iI z))) (by clear C hκ hκl hS hB hB1 hB2 hB3 hB4 hB5 hB6 hC hD hw ih4 hme f5a f5b f5c f5d f5e f5f f5g f5h ih8 v1 v2; unfold ltI; rw [if_neg (by simp_all), hd.1, hd.2]; clear hd r_t r_i; unfold ltC; first | (simp [*]; done) | (simp_all; done) | (simp_all <;> omega)), rfl⟩
                              · skip
                                refine z_bipush C 226 dX7_letter_224 (by decide) rfl ?_
                                refine z_iload_n C 227 3 dX7_letter_226 rfl rfl ?_
                                refine z_bipush C 229 dX7_letter_227 (by decide) rfl ?_
                                refine z_idiv (z := (u) / 10) C 230 dX7_letter_229 (by decide) (iI_div10 (by omega) (by omega)) rfl ?_
                                refine z_iadd C 231 dX7_letter_230 rfl ?_
                                refine z_goto C 241 dX7_letter_231 (by decide) ?_
                                exact z_iret C dX7_letter_241 rfl (Nat.le_of_ble_eq_true rfl) (Nat.le_of_ble_eq_true rfl) ⟨congrArg (fun z => some (Value.int (iI z))) (by clear C hκ hκl hS hB hB1 hB2 hB3 hB4 hB5 hB6 hC hD hw ih4 hme f5a f5b f5c f5d f5e f5f f5g f5h ih8 v1 v2; unfold ltI; rw [if_neg (by simp_all), hd.1, hd.2]; clear hd r_t r_i; unfold ltC; first | (simp [*]; done) | (simp_all; done) | (simp_all <;> omega)), rfl⟩
                          · skip
                            refine z_bipush C 209 dX7_letter_207 (by decide) rfl ?_
                            refine z_goto C 241 dX7_letter_209 (by decide) ?_
                            exact z_iret C dX7_letter_241 rfl (Nat.le_of_ble_eq_true rfl) (Nat.le_of_ble_eq_true rfl) ⟨congrArg (fun z => some (Value.int (iI z))) (by clear C hκ hκl hS hB hB1 hB2 hB3 hB4 hB5 hB6 hC hD hw ih4 hme f5a f5b f5c f5d f5e f5f f5g f5h ih8 v1 v2; unfold ltI; rw [if_neg (by simp_all), hd.1, hd.2]; clear hd r_t r_i; unfold ltC; first | (simp [*]; done) | (simp_all; done) | (simp_all <;> omega)), rfl⟩
                        · skip
                          refine z_bipush C 195 dX7_letter_193 (by decide) rfl ?_
                          refine z_goto C 241 dX7_letter_195 (by decide) ?_
                          exact z_iret C dX7_letter_241 rfl (Nat.le_of_ble_eq_true rfl) (Nat.le_of_ble_eq_true rfl) ⟨congrArg (fun z => some (Value.int (iI z))) (by clear C hκ hκl hS hB hB1 hB2 hB3 hB4 hB5 hB6 hC hD hw ih4 hme f5a f5b f5c f5d f5e f5f f5g f5h ih8 v1 v2; unfold ltI; rw [if_neg (by simp_all), hd.1, hd.2]; clear hd r_t r_i; unfold ltC; first | (simp [*]; done) | (simp_all; done) | (simp_all <;> omega)), rfl⟩
                      · skip
                        refine z_iload_n C 116 3 dX7_letter_115 rfl rfl ?_
                        refine z_if_ne C 124 119 dX7_letter_116 (by decide) ⟨by omega, by omega⟩ rfl (fun c17 => ?_) (fun c17 => ?_)
                        · skip
                          refine z_iload_n C 125 3 dX7_letter_124 rfl rfl ?_
                          refine z_iconst C 126 dX7_letter_125 rfl ?_
                          refine z_icmp_ne C 134 129 dX7_letter_126 (by decide) ⟨by omega, by omega⟩ ⟨by decide, by decide⟩ rfl (fun c18 => ?_) (fun c18 => ?_)
                          · skip
                            refine z_iload_n C 135 3 dX7_letter_134 rfl rfl ?_
                            refine z_iconst C 136 dX7_letter_135 rfl ?_
                            refine z_icmp_ne C 144 139 dX7_letter_136 (by decide) ⟨by omega, by omega⟩ ⟨by decide, by decide⟩ rfl (fun c19 => ?_) (fun c19 => ?_)
                            · skip
                              refine z_iload_n C 145 3 dX7_letter_144 rfl rfl ?_
                              refine z_iconst C 146 dX7_letter_145 rfl ?_
                              refine z_icmp_ne C 154 149 dX7_letter_146 (by decide) ⟨by omega, by omega⟩ ⟨by decide, by decide⟩ rfl (fun c20 => ?_) (fun c20 => ?_)
                              · skip
                                refine z_iload_n C 155 3 dX7_letter_154 rfl rfl ?_
                                refine z_iconst C 156 dX7_letter_155 rfl ?_
                                refine z_icmp_ne C 164 159 dX7_letter_156 (by decide) ⟨by omega, by omega⟩ ⟨by decide, by decide⟩ rfl (fun c21 => ?_) (fun c21 => ?_)
                                · skip
                                  refine z_iload_n C 165 3 dX7_letter_164 rfl rfl ?_
                                  refine z_iconst C 166 dX7_letter_165 rfl ?_
                                  refine z_icmp_ne C 174 169 dX7_letter_166 (by decide) ⟨by omega, by omega⟩ ⟨by decide, by decide⟩ rfl (fun c22 => ?_) (fun c22 => ?_)
                                  · skip
                                    refine z_iload_n C 175 3 dX7_letter_174 rfl rfl ?_
                                    refine z_bipush C 177 dX7_letter_175 (by decide) rfl ?_
                                    refine z_icmp_ne C 185 180 dX7_letter_177 (by decide) ⟨by omega, by omega⟩ ⟨by decide, by decide⟩ rfl (fun c23 => ?_) (fun c23 => ?_)
                                    · skip
                                      refine z_bipush C 187 dX7_letter_185 (by decide) rfl ?_
                                      exact z_iret C dX7_letter_187 rfl (Nat.le_of_ble_eq_true rfl) (Nat.le_of_ble_eq_true rfl) ⟨congrArg (fun z => some (Value.int (iI z))) (by clear C hκ hκl hS hB hB1 hB2 hB3 hB4 hB5 hB6 hC hD hw ih4 hme f5a f5b f5c f5d f5e f5f f5g f5h ih8 v1 v2; unfold ltI; rw [if_neg (by simp_all), hd.1, hd.2]; clear hd r_t r_i; unfold ltC; first | (simp [*]; done) | (simp_all; done) | (simp_all <;> omega)), rfl⟩
                                    · skip
                                      refine z_bipush C 182 dX7_letter_180 (by decide) rfl ?_
                                      refine z_goto C 187 dX7_letter_182 (by decide) ?_
                                      exact z_iret C dX7_letter_187 rfl (Nat.le_of_ble_eq_true rfl) (Nat.le_of_ble_eq_true rfl) ⟨congrArg (fun z => some (Value.int (iI z))) (by clear C hκ hκl hS hB hB1 hB2 hB3 hB4 hB5 hB6 hC hD hw ih4 hme f5a f5b f5c f5d f5e f5f f5g f5h ih8 v1 v2; unfold ltI; rw [if_neg (by simp_all), hd.1, hd.2]; clear hd r_t r_i; unfold ltC; first | (simp [*]; done) | (simp_all; done) | (simp_all <;> omega)), rfl⟩
                                  · skip
                                    refine z_bipush C 171 dX7_letter_169 (by decide) rfl ?_
                                    refine z_goto C 187 dX7_letter_171 (by decide) ?_
                                    exact z_iret C dX7_letter_187 rfl (Nat.le_of_ble_eq_true rfl) (Nat.le_of_ble_eq_true rfl) ⟨congrArg (fun z => some (Value.int (iI z))) (by clear C hκ hκl hS hB hB1 hB2 hB3 hB4 hB5 hB6 hC hD hw ih4 hme f5a f5b f5c f5d f5e f5f f5g f5h ih8 v1 v2; unfold ltI; rw [if_neg (by simp_all), hd.1, hd.2]; clear hd r_t r_i; unfold ltC; first | (simp [*]; done) | (simp_all; done) | (simp_all <;> omega)), rfl⟩
                                · skip
                                  refine z_bipush C 161 dX7_letter_159 (by decide) rfl ?_
                                  refine z_goto C 187 dX7_letter_161 (by decide) ?_
                                  exact z_iret C dX7_letter_187 rfl (Nat.le_of_ble_eq_true rfl) (Nat.le_of_ble_eq_true rfl) ⟨congrArg (fun z => some (Value.int (iI z))) (by clear C hκ hκl hS hB hB1 hB2 hB3 hB4 hB5 hB6 hC hD hw ih4 hme f5a f5b f5c f5d f5e f5f f5g f5h ih8 v1 v2; unfold ltI; rw [if_neg (by simp_all), hd.1, hd.2]; clear hd r_t r_i; unfold ltC; first | (simp [*]; done) | (simp_all; done) | (simp_all <;> omega)), rfl⟩
                              · skip
                                refine z_bipush C 151 dX7_letter_149 (by decide) rfl ?_
                                refine z_goto C 187 dX7_letter_151 (by decide) ?_
                                exact z_iret C dX7_letter_187 rfl (Nat.le_of_ble_eq_true rfl) (Nat.le_of_ble_eq_true rfl) ⟨congrArg (fun z => some (Value.int (iI z))) (by clear C hκ hκl hS hB hB1 hB2 hB3 hB4 hB5 hB6 hC hD hw ih4 hme f5a f5b f5c f5d f5e f5f f5g f5h ih8 v1 v2; unfold ltI; rw [if_neg (by simp_all), hd.1, hd.2]; clear hd r_t r_i; unfold ltC; first | (simp [*]; done) | (simp_all; done) | (simp_all <;> omega)), rfl⟩
                            · skip
                              refine z_bipush C 141 dX7_letter_139 (by decide) rfl ?_
                              refine z_goto C 187 dX7_letter_141 (by decide) ?_
                              exact z_iret C dX7_letter_187 rfl (Nat.le_of_ble_eq_true rfl) (Nat.le_of_ble_eq_true rfl) ⟨congrArg (fun z => some (Value.int (iI z))) (by clear C hκ hκl hS hB hB1 hB2 hB3 hB4 hB5 hB6 hC hD hw ih4 hme f5a f5b f5c f5d f5e f5f f5g f5h ih8 v1 v2; unfold ltI; rw [if_neg (by simp_all), hd.1, hd.2]; clear hd r_t r_i; unfold ltC; first | (simp [*]; done) | (simp_all; done) | (simp_all <;> omega)), rfl⟩
                          · skip
                            refine z_bipush C 131 dX7_letter_129 (by decide) rfl ?_
                            refine z_goto C 187 dX7_letter_131 (by decide) ?_
                            exact z_iret C dX7_letter_187 rfl (Nat.le_of_ble_eq_true rfl) (Nat.le_of_ble_eq_true rfl) ⟨congrArg (fun z => some (Value.int (iI z))) (by clear C hκ hκl hS hB hB1 hB2 hB3 hB4 hB5 hB6 hC hD hw ih4 hme f5a f5b f5c f5d f5e f5f f5g f5h ih8 v1 v2; unfold ltI; rw [if_neg (by simp_all), hd.1, hd.2]; clear hd r_t r_i; unfold ltC; first | (simp [*]; done) | (simp_all; done) | (simp_all <;> omega)), rfl⟩
                        · skip
                          refine z_bipush C 121 dX7_letter_119 (by decide) rfl ?_
                          refine z_goto C 187 dX7_letter_121 (by decide) ?_
                          exact z_iret C dX7_letter_187 rfl (Nat.le_of_ble_eq_true rfl) (Nat.le_of_ble_eq_true rfl) ⟨congrArg (fun z => some (Value.int (iI z))) (by clear C hκ hκl hS hB hB1 hB2 hB3 hB4 hB5 hB6 hC hD hw ih4 hme f5a f5b f5c f5d f5e f5f f5g f5h ih8 v1 v2; unfold ltI; rw [if_neg (by simp_all), hd.1, hd.2]; clear hd r_t r_i; unfold ltC; first | (simp [*]; done) | (simp_all; done) | (simp_all <;> omega)), rfl⟩
                    · skip
                      refine z_bipush C 102 dX7_letter_100 (by decide) rfl ?_
                      exact z_iret C dX7_letter_102 rfl (Nat.le_of_ble_eq_true rfl) (Nat.le_of_ble_eq_true rfl) ⟨congrArg (fun z => some (Value.int (iI z))) (by clear C hκ hκl hS hB hB1 hB2 hB3 hB4 hB5 hB6 hC hD hw ih4 hme f5a f5b f5c f5d f5e f5f f5g f5h ih8 v1 v2; unfold ltI; rw [if_neg (by simp_all), hd.1, hd.2]; clear hd r_t r_i; unfold ltC; first | (simp [*]; done) | (simp_all; done) | (simp_all <;> omega)), rfl⟩
                  · skip
                    refine z_iconst C 93 dX7_letter_92 rfl ?_
                    exact z_iret C dX7_letter_93 rfl (Nat.le_of_ble_eq_true rfl) (Nat.le_of_ble_eq_true rfl) ⟨congrArg (fun z => some (Value.int (iI z))) (by clear C hκ hκl hS hB hB1 hB2 hB3 hB4 hB5 hB6 hC hD hw ih4 hme f5a f5b f5c f5d f5e f5f f5g f5h ih8 v1 v2; unfold ltI; rw [if_neg (by simp_all), hd.1, hd.2]; clear hd r_t r_i; unfold ltC; first | (simp [*]; done) | (simp_all; done) | (simp_all <;> omega)), rfl⟩
                · skip
                  refine z_iload C 85 6 dX7_letter_83 rfl rfl ?_
                  exact z_iret C dX7_letter_85 rfl (Nat.le_of_ble_eq_true rfl) (Nat.le_of_ble_eq_true rfl) ⟨congrArg (fun z => some (Value.int (iI z))) (by clear C hκ hκl hS hB hB1 hB2 hB3 hB4 hB5 hB6 hC hD hw ih4 hme f5a f5b f5c f5d f5e f5f f5g f5h ih8 v1 v2; unfold ltI; rw [if_neg (by simp_all), hd.1, hd.2]; clear hd r_t r_i; unfold ltC; first | (simp [*]; done) | (simp_all; done) | (simp_all <;> omega)), rfl⟩
            refine z_iload_n C 44 3 dX7_letter_43 rfl rfl ?_
            refine z_bipush C 46 dX7_letter_44 (by decide) rfl ?_
            refine z_icmp_le C 53 49 dX7_letter_46 (by decide) ⟨by omega, by omega⟩ ⟨by decide, by decide⟩ rfl (fun c24 => ?_) (fun c24 => ?_)
            · skip
              refine z_iconst C 54 dX7_letter_53 rfl ?_
              refine z_istore (lv' := [(0, .ref (am)), (1, .int (iI (t))), (2, .int (iI (i))), (3, .int (iI (u))), (4, .int (iI ((d : Int)))), (5, .int (iI (1)))]) C 56 [1, 2, 3, 4, 5, 0] dX7_letter_54 (by decide) rfl rfl ?_
              refine z_iload_n C 57 3 dX7_letter_56 rfl rfl ?_
              refine z_bipush C 59 dX7_letter_57 (by decide) rfl ?_
              refine z_icmp_ge C 69 62 dX7_letter_59 (by decide) ⟨by omega, by omega⟩ ⟨by decide, by decide⟩ rfl (fun c25 => ?_) (fun c25 => ?_)
              · skip
                refine z_iload C 71 4 dX7_letter_69 rfl rfl ?_
                refine z_iconst C 72 dX7_letter_71 rfl ?_
                refine z_iadd C 73 dX7_letter_72 rfl ?_
                refine z_iload C 75 5 dX7_letter_73 rfl rfl ?_
                refine z_iadd C 76 dX7_letter_75 rfl ?_
                refine z_istore (lv' := [(0, .ref (am)), (1, .int (iI (t))), (2, .int (iI (i))), (3, .int (iI (u))), (4, .int (iI ((d : Int)))), (5, .int (iI (1))), (6, .int (iI ((((d : Int)) + (2)) + (1))))]) C 78 [1, 2, 3, 4, 5, 6, 0] dX7_letter_76 (by decide) rfl rfl ?_
                refine z_as (lv' := [(0, .ref (am)), (1, .int (iI (t))), (2, .int (iI (i))), (3, .int (iI (u))), (4, .int (iI ((d : Int)))), (5, .int (iI (fgI u))), (6, .int (iI (lenI d u)))]) rfl ((congrArg (fun z9 => ([(0, .ref (am)), (1, .int (iI (t))), (2, .int (iI (i))), (3, .int (iI (u))), (4, .int (iI ((d : Int)))), (5, .int (iI (z9))), (6, .int (iI ((((d : Int)) + (2)) + (1))))] : List (Nat × Value))) (show (1) = (fgI u) from by unfold fgI; split <;> omega)).trans (congrArg (fun z9 => ([(0, .ref (am)), (1, .int (iI (t))), (2, .int (iI (i))), (3, .int (iI (u))), (4, .int (iI ((d : Int)))), (5, .int (iI (fgI u))), (6, .int (iI (z9)))] : List (Nat × Value))) (show ((((d : Int)) + (2)) + (1)) = (lenI d u) from by unfold lenI fgI; split <;> (try split) <;> omega))) rfl ?_
                exact L78_7 _  (by unfold lenI fgI; refine ⟨?_, ?_, ?_, ?_⟩ <;> intro h <;> (repeat split) <;> omega) (Nat.lt_succ_self _)
              · skip
                refine z_iload C 64 4 dX7_letter_62 rfl rfl ?_
                refine z_iconst C 65 dX7_letter_64 rfl ?_
                refine z_iadd C 66 dX7_letter_65 rfl ?_
                refine z_goto C 76 dX7_letter_66 (by decide) ?_
                refine z_istore (lv' := [(0, .ref (am)), (1, .int (iI (t))), (2, .int (iI (i))), (3, .int (iI (u))), (4, .int (iI ((d : Int)))), (5, .int (iI (1))), (6, .int (iI (((d : Int)) + (1))))]) C 78 [1, 2, 3, 4, 5, 6, 0] dX7_letter_76 (by decide) rfl rfl ?_
                refine z_as (lv' := [(0, .ref (am)), (1, .int (iI (t))), (2, .int (iI (i))), (3, .int (iI (u))), (4, .int (iI ((d : Int)))), (5, .int (iI (fgI u))), (6, .int (iI (lenI d u)))]) rfl ((congrArg (fun z9 => ([(0, .ref (am)), (1, .int (iI (t))), (2, .int (iI (i))), (3, .int (iI (u))), (4, .int (iI ((d : Int)))), (5, .int (iI (z9))), (6, .int (iI (((d : Int)) + (1))))] : List (Nat × Value))) (show (1) = (fgI u) from by unfold fgI; split <;> omega)).trans (congrArg (fun z9 => ([(0, .ref (am)), (1, .int (iI (t))), (2, .int (iI (i))), (3, .int (iI (u))), (4, .int (iI ((d : Int)))), (5, .int (iI (fgI u))), (6, .int (iI (z9)))] : List (Nat × Value))) (show (((d : Int)) + (1)) = (lenI d u) from by unfold lenI fgI; split <;> (try split) <;> omega))) rfl ?_
                exact L78_7 _  (by unfold lenI fgI; refine ⟨?_, ?_, ?_, ?_⟩ <;> intro h <;> (repeat split) <;> omega) (Nat.lt_succ_self _)
            · skip
              refine z_iconst C 50 dX7_letter_49 rfl ?_
              refine z_goto C 54 dX7_letter_50 (by decide) ?_
              refine z_istore (lv' := [(0, .ref (am)), (1, .int (iI (t))), (2, .int (iI (i))), (3, .int (iI (u))), (4, .int (iI ((d : Int)))), (5, .int (iI (2)))]) C 56 [1, 2, 3, 4, 5, 0] dX7_letter_54 (by decide) rfl rfl ?_
              refine z_iload_n C 57 3 dX7_letter_56 rfl rfl ?_
              refine z_bipush C 59 dX7_letter_57 (by decide) rfl ?_
              refine z_icmp_ge C 69 62 dX7_letter_59 (by decide) ⟨by omega, by omega⟩ ⟨by decide, by decide⟩ rfl (fun c26 => ?_) (fun c26 => ?_)
              · skip
                refine z_iload C 71 4 dX7_letter_69 rfl rfl ?_
                refine z_iconst C 72 dX7_letter_71 rfl ?_
                refine z_iadd C 73 dX7_letter_72 rfl ?_
                refine z_iload C 75 5 dX7_letter_73 rfl rfl ?_
                refine z_iadd C 76 dX7_letter_75 rfl ?_
                refine z_istore (lv' := [(0, .ref (am)), (1, .int (iI (t))), (2, .int (iI (i))), (3, .int (iI (u))), (4, .int (iI ((d : Int)))), (5, .int (iI (2))), (6, .int (iI ((((d : Int)) + (2)) + (2))))]) C 78 [1, 2, 3, 4, 5, 6, 0] dX7_letter_76 (by decide) rfl rfl ?_
                refine z_as (lv' := [(0, .ref (am)), (1, .int (iI (t))), (2, .int (iI (i))), (3, .int (iI (u))), (4, .int (iI ((d : Int)))), (5, .int (iI (fgI u))), (6, .int (iI (lenI d u)))]) rfl ((congrArg (fun z9 => ([(0, .ref (am)), (1, .int (iI (t))), (2, .int (iI (i))), (3, .int (iI (u))), (4, .int (iI ((d : Int)))), (5, .int (iI (z9))), (6, .int (iI ((((d : Int)) + (2)) + (2))))] : List (Nat × Value))) (show (2) = (fgI u) from by unfold fgI; split <;> omega)).trans (congrArg (fun z9 => ([(0, .ref (am)), (1, .int (iI (t))), (2, .int (iI (i))), (3, .int (iI (u))), (4, .int (iI ((d : Int)))), (5, .int (iI (fgI u))), (6, .int (iI (z9)))] : List (Nat × Value))) (show ((((d : Int)) + (2)) + (2)) = (lenI d u) from by unfold lenI fgI; split <;> (try split) <;> omega))) rfl ?_
                exact L78_7 _  (by unfold lenI fgI; refine ⟨?_, ?_, ?_, ?_⟩ <;> intro h <;> (repeat split) <;> omega) (Nat.lt_succ_self _)
              · skip
                refine z_iload C 64 4 dX7_letter_62 rfl rfl ?_
                refine z_iconst C 65 dX7_letter_64 rfl ?_
                refine z_iadd C 66 dX7_letter_65 rfl ?_
                refine z_goto C 76 dX7_letter_66 (by decide) ?_
                refine z_istore (lv' := [(0, .ref (am)), (1, .int (iI (t))), (2, .int (iI (i))), (3, .int (iI (u))), (4, .int (iI ((d : Int)))), (5, .int (iI (2))), (6, .int (iI (((d : Int)) + (1))))]) C 78 [1, 2, 3, 4, 5, 6, 0] dX7_letter_76 (by decide) rfl rfl ?_
                refine z_as (lv' := [(0, .ref (am)), (1, .int (iI (t))), (2, .int (iI (i))), (3, .int (iI (u))), (4, .int (iI ((d : Int)))), (5, .int (iI (fgI u))), (6, .int (iI (lenI d u)))]) rfl ((congrArg (fun z9 => ([(0, .ref (am)), (1, .int (iI (t))), (2, .int (iI (i))), (3, .int (iI (u))), (4, .int (iI ((d : Int)))), (5, .int (iI (z9))), (6, .int (iI (((d : Int)) + (1))))] : List (Nat × Value))) (show (2) = (fgI u) from by unfold fgI; split <;> omega)).trans (congrArg (fun z9 => ([(0, .ref (am)), (1, .int (iI (t))), (2, .int (iI (i))), (3, .int (iI (u))), (4, .int (iI ((d : Int)))), (5, .int (iI (fgI u))), (6, .int (iI (z9)))] : List (Nat × Value))) (show (((d : Int)) + (1)) = (lenI d u) from by unfold lenI fgI; split <;> (try split) <;> omega))) rfl ?_
                exact L78_7 _  (by unfold lenI fgI; refine ⟨?_, ?_, ?_, ?_⟩ <;> intro h <;> (repeat split) <;> omega) (Nat.lt_succ_self _)
          · skip
            refine z_aload_n C 31 0 dX7_letter_30 rfl rfl ?_
            refine m_geta C hκ 34 4 (by decide) rfl q1999 rfl dX7_letter_31 rfl ?_
            refine z_iload_n C 35 3 dX7_letter_34 rfl rfl ?_
            refine m_iald (len := 60) C hκ hD 36 4 (by decide) rfl rfl (by omega) (by omega) dX7_letter_35 rfl ?_
            refine z_istore_n (lv' := [(0, .ref (am)), (1, .int (iI (t))), (2, .int (iI (i))), (3, .int (iI (w 4 (u)))), (4, .int (iI ((d : Int))))]) C 37 [1, 2, 3, 0, 4] dX7_letter_36 (by decide) rfl rfl ?_
            refine z_iinc (lv' := [(0, .ref (am)), (1, .int (iI (t))), (2, .int (iI (i))), (3, .int (iI (w 4 (u)))), (4, .int (iI (((d : Int)) + 1)))]) C 40 4 [1, 2, 3, 4, 0] dX7_letter_37 rfl (by decide) rfl rfl ?_
            refine z_goto C 20 dX7_letter_40 (by decide) ?_
            refine z_as (lv' := [(0, .ref (am)), (1, .int (iI (t))), (2, .int (iI (i))), (3, .int (iI ((w 4 u)))), (4, .int (iI (((d + 1) : Int))))]) rfl rfl rfl ?_
            exact ih4 (w 4 u) (d + 1) (by have := bs_in hS (u.toNat + 1) u hu.1 (by omega) (by omega); have := (bs_row hS hu.1 (by omega) (by assumption)); have := bs_in hS (t.toNat + 1) t (by omega) (by omega) (by omega); have := bs_in hS ((w 4 u).toNat + 1) (w 4 u) (by omega) (by omega) (by omega); omega) (by have := (bs_row hS hu.1 (by omega) (by assumption)); rw [hd.1, hd.2, this.1, this.2]; exact ⟨rfl, by omega⟩) (by omega)
      refine z_as (lv' := [(0, .ref (am)), (1, .int (iI (t))), (2, .int (iI (i))), (3, .int (iI ((t)))), (4, .int (iI (((0) : Int))))]) rfl rfl rfl ?_
      exact L20_3 _ (t) (0) (by omega) (by exact ⟨rfl, (Int.zero_add _).symm⟩) (Nat.lt_succ_self _)
    · skip
      refine z_iconst C 14 dX7_letter_13 rfl ?_
      exact z_iret C dX7_letter_14 rfl (Nat.le_of_ble_eq_true rfl) (Nat.le_of_ble_eq_true rfl) ⟨congrArg (fun z => some (Value.int (iI z))) (by unfold ltI; simp_all), rfl⟩
set_option maxRecDepth 100000 in
theorem k7_declared {l : Launch} {θ : zTh} {N : zMap} {am : Nat} {ar : Nat → Nat} {w : mW} (hD : mDis am ar) (hw : mWF w) (t : Int) (i : Int) (r_t : inR t) (r_i : inR i) (hS : mS w)  : ZF θ l yX7_declared cX7_declared 5 (some .int) ⟨2, 0, 0, 46⟩ [.ref (am), .int (iI (t)), .int (iI (i))] (mP θ am ar w N) (some (.int (iI (dclI w t i)))) (mP θ am ar w N) := by
  refine z_start (own := RX7) (nm := "declared") pnX7 rfl rfl (Nat.le_of_ble_eq_true rfl) ?_
  intro κ hκ hκl C
  change Z κ (mP θ am ar w N) 0 0 0 [(0, .ref (am)), (1, .int (iI (t))), (2, .int (iI (i)))] []
  have hB := hS.B
  obtain ⟨hB1, hB2, hB3, hB4, hB5, hB6⟩ := hS.B
  have hC := hS.C
  have ri2 := r_i.2
  refine z_aload_n C 1 0 dX7_declared_0 rfl rfl ?_
  refine z_iload_n C 2 1 dX7_declared_1 rfl rfl ?_
  refine z_callVF (n' := 0) (k' := 0) (As := [.int (iI (t))]) (rest := []) C hκ hκl 5 (k7_isType hD hw (t) r_t hB) dX7_declared_2 q2160 q2162 qs40 q97 q2163 znX7_isType (Nat.le_of_ble_eq_true rfl) (Nat.le_of_ble_eq_true rfl) (Nat.le_of_ble_eq_true rfl) (Nat.le_of_ble_eq_true rfl) mrec rfl rfl (Nat.le_of_ble_eq_true rfl) rfl rfl rfl ?_
  refine z_ifB_eq C 12 8 dX7_declared_5 (by decide) rfl (fun c1 => ?_) (fun c1 => ?_)
  · skip
    have c1b : ¬ (0 ≤ (t) ∧ (t) < w 0 0) := of_decide_eq_false c1
    refine z_iconst C 13 dX7_declared_12 rfl ?_
    exact z_iret C dX7_declared_13 rfl (Nat.le_of_ble_eq_true rfl) (Nat.le_of_ble_eq_true rfl) ⟨congrArg (fun z => some (Value.int (iI z))) (by unfold dclI; simp_all), rfl⟩
  · skip
    have c1b : (0 ≤ (t) ∧ (t) < w 0 0) := of_decide_eq_true c1
    refine z_iload_n C 9 2 dX7_declared_8 rfl rfl ?_
    refine z_if_ge C 14 12 dX7_declared_9 (by decide) r_i rfl (fun c2 => ?_) (fun c2 => ?_)
    · skip
      refine z_iload_n C 15 2 dX7_declared_14 rfl rfl ?_
      refine z_istore_n (lv' := [(0, .ref (am)), (1, .int (iI (t))), (2, .int (iI (i))), (3, .int (iI (i)))]) C 16 [1, 2, 3, 0] dX7_declared_15 (by decide) rfl rfl ?_
      refine z_iconst C 17 dX7_declared_16 rfl ?_
      refine z_istore (lv' := [(0, .ref (am)), (1, .int (iI (t))), (2, .int (iI (i))), (3, .int (iI (i))), (4, .int (iI (0)))]) C 19 [1, 2, 3, 4, 0] dX7_declared_17 (by decide) rfl rfl ?_
      have L19_3 : ∀ (fu : Nat) (k : Nat) (hk : (k : Int) ≤ w 11 0) (hc : (cntN (fun j => decide (w 13 j = t)) k : Int) ≤ i ∧ 0 ≤ i) (hme : (w 11 0).toNat - k < fu), Z κ (mP θ am ar w N) 0 0 19 [(0, .ref (am)), (1, .int (iI (t))), (2, .int (iI (i))), (3, .int (iI (i - (cntN (fun j => decide (w 13 j = t)) k : Nat)))), (4, .int (iI ((k : Int))))] [] := by
        intro fu
        induction fu with
        | zero => intro k hk hc hme; exact absurd hme (Nat.not_lt_zero _)
        | succ fu ih4 =>
          intro k hk hc hme
          refine z_iload C 21 4 dX7_declared_19 rfl rfl ?_
          refine z_aload_n C 22 0 dX7_declared_21 rfl rfl ?_
          refine m_geti C hκ 25 11 (by decide) rfl q2006 rfl dX7_declared_22 rfl ?_
          refine z_icmp_ge C 55 28 dX7_declared_25 (by decide) ⟨by omega, by omega⟩ (hw.r _ _ rfl) rfl (fun c5 => ?_) (fun c5 => ?_)
          · skip
            refine z_iconst C 56 dX7_declared_55 rfl ?_
            exact z_iret C dX7_declared_56 rfl (Nat.le_of_ble_eq_true rfl) (Nat.le_of_ble_eq_true rfl) ⟨congrArg (fun z => some (Value.int (iI z))) (by unfold dclI; rw [if_neg (by simp_all <;> omega)]; refine (dcl_n ?_).symm; rw [show (w 11 0).toNat = k by omega]; exact hc.1), rfl⟩
          · skip
            refine z_aload_n C 29 0 dX7_declared_28 rfl rfl ?_
            refine m_geta C hκ 32 13 (by decide) rfl q2008 rfl dX7_declared_29 rfl ?_
            refine z_iload C 34 4 dX7_declared_32 rfl rfl ?_
            obtain ⟨f6a, f6b, f6c, f6d⟩ := hS.M (show 0 ≤ (k : Int) by omega) (by omega)
            refine m_iald (len := 100) C hκ hD 35 13 (by decide) rfl rfl (by omega) (by omega) dX7_declared_34 rfl ?_
            refine z_iload_n C 36 1 dX7_declared_35 rfl rfl ?_
            refine z_icmp_ne C 49 39 dX7_declared_36 (by decide) (hw.r _ _ rfl) r_t rfl (fun c7 => ?_) (fun c7 => ?_)
            · skip
              refine z_iinc (lv' := [(0, .ref (am)), (1, .int (iI (t))), (2, .int (iI (i))), (3, .int (iI (i - (cntN (fun j => decide (w 13 j = t)) k : Nat)))), (4, .int (iI (((k : Int)) + 1)))]) C 52 4 [1, 2, 3, 4, 0] dX7_declared_49 rfl (by decide) rfl rfl ?_
              refine z_goto C 19 dX7_declared_52 (by decide) ?_
              refine z_as (lv' := [(0, .ref (am)), (1, .int (iI (t))), (2, .int (iI (i))), (3, .int (iI (i - (cntN (fun j => decide (w 13 j = t)) (k + 1) : Nat)))), (4, .int (iI (((k + 1) : Int))))]) rfl (congrArg (fun z9 => ([(0, .ref (am)), (1, .int (iI (t))), (2, .int (iI (i))), (3, .int (iI (z9))), (4, .int (iI (((k : Int)) + 1)))] : List (Nat × Value))) (show (i - (cntN (fun j => decide (w 13 j = t)) k : Nat)) = (i - (cntN (fun j => decide (w 13 j = t)) (k + 1) : Nat)) from by simp only [cntN]; simp_all <;> omega)) rfl ?_
              exact ih4 (k + 1) (by omega) (by simp only [cntN]; simp_all <;> omega) (by omega)
            · skip
              refine z_iload_n C 40 3 dX7_declared_39 rfl rfl ?_
              refine z_if_ne C 46 43 dX7_declared_40 (by decide) ⟨by omega, by omega⟩ rfl (fun c8 => ?_) (fun c8 => ?_)
              · skip
                refine z_iinc (lv' := [(0, .ref (am)), (1, .int (iI (t))), (2, .int (iI (i))), (3, .int (iI ((i - (cntN (fun j => decide (w 13 j = t)) k : Nat)) + (-1)))), (4, .int (iI ((k : Int))))]) C 49 3 [1, 2, 3, 0, 4] dX7_declared_46 rfl (by decide) rfl rfl ?_
                refine z_iinc (lv' := [(0, .ref (am)), (1, .int (iI (t))), (2, .int (iI (i))), (3, .int (iI ((i - (cntN (fun j => decide (w 13 j = t)) k : Nat)) + (-1)))), (4, .int (iI (((k : Int)) + 1)))]) C 52 4 [1, 2, 3, 4, 0] dX7_declared_49 rfl (by decide) rfl rfl ?_
                refine z_goto C 19 dX7_declared_52 (by decide) ?_
                refine z_as (lv' := [(0, .ref (am)), (1, .int (iI (t))), (2, .int (iI (i))), (3, .int (iI (i - (cntN (fun j => decide (w 13 j = t)) (k + 1) : Nat)))), (4, .int (iI (((k + 1) : Int))))]) rfl (congrArg (fun z9 => ([(0, .ref (am)), (1, .int (iI (t))), (2, .int (iI (i))), (3, .int (iI (z9))), (4, .int (iI (((k : Int)) + 1)))] : List (Nat × Value))) (show ((i - (cntN (fun j => decide (w 13 j = t)) k : Nat)) + (-1)) = (i - (cntN (fun j => decide (w 13 j = t)) (k + 1) : Nat)) from by simp only [cntN]; simp_all <;> omega)) rfl ?_
                exact ih4 (k + 1) (by omega) (by simp only [cntN]; simp_all <;> omega) (by omega)
              · skip
                refine z_iload C 45 4 dX7_declared_43 rfl rfl ?_
                exact z_iret C dX7_declared_45 rfl (Nat.le_of_ble_eq_true rfl) (Nat.le_of_ble_eq_true rfl) ⟨congrArg (fun z => some (Value.int (iI z))) (by unfold dclI; rw [if_neg (by simp_all <;> omega)]; exact (dcl_t (by omega) (by assumption) (by omega)).symm), rfl⟩
      refine z_as (lv' := [(0, .ref (am)), (1, .int (iI (t))), (2, .int (iI (i))), (3, .int (iI (i - (cntN (fun j => decide (w 13 j = t)) (0) : Nat)))), (4, .int (iI (((0) : Int))))]) rfl (congrArg (fun z9 => ([(0, .ref (am)), (1, .int (iI (t))), (2, .int (iI (i))), (3, .int (iI (z9))), (4, .int (iI (0)))] : List (Nat × Value))) (show (i) = (i - (cntN (fun j => decide (w 13 j = t)) (0) : Nat)) from by simp [cntN])) rfl ?_
      exact L19_3 _ (0) (by omega) (by simp only [cntN]; omega) (Nat.lt_succ_self _)
    · skip
      refine z_iconst C 13 dX7_declared_12 rfl ?_
      exact z_iret C dX7_declared_13 rfl (Nat.le_of_ble_eq_true rfl) (Nat.le_of_ble_eq_true rfl) ⟨congrArg (fun z => some (Value.int (iI z))) (by unfold dclI; simp_all), rfl⟩
set_option maxRecDepth 100000 in
theorem k7_lay {l : Launch} {θ : zTh} {N : zMap} {am : Nat} {ar : Nat → Nat} {w : mW} (hD : mDis am ar) (hw : mWF w) (s : Int) (a : Int) (b : Int) (r_s : inR s) (r_a : inR a) (r_b : inL b) (hs : 0 ≤ s ∧ s < 8) : ZF θ l yX7_lay cX7_lay 5 none ⟨0, 0, 0, 0⟩ [.ref (am), .int (iI (s)), .int (iI (a)), .long (lI (b))] (mP θ am ar w N) none (mP θ am ar (layW w s a b) N) := by
  refine z_start (own := RX7) (nm := "lay") pnX7 rfl rfl (Nat.le_of_ble_eq_true rfl) ?_
  intro κ hκ hκl C
  change Z κ (mP θ am ar w N) 0 0 0 [(0, .ref (am)), (1, .int (iI (s))), (2, .int (iI (a))), (3, .long (lI (b)))] []
  refine z_aload_n C 1 0 dX7_lay_0 rfl rfl ?_
  refine m_geta C hκ 4 32 (by decide) rfl q2027 rfl dX7_lay_1 rfl ?_
  refine z_iload_n C 5 1 dX7_lay_4 rfl rfl ?_
  refine z_iload_n C 6 2 dX7_lay_5 rfl rfl ?_
  obtain ⟨w1, ew1⟩ : ∃ wz, mset w 32 (s) (a) = wz := ⟨_, rfl⟩
  have hw1 : mWF w1 := ew1 ▸ hw.set r_a rfl
  refine m_iast (len := 8) (w' := w1) C hκ hD 7 32 (by decide) rfl rfl (by omega) (by omega) dX7_lay_6 rfl ew1 ?_
  refine z_aload_n C 8 0 dX7_lay_7 rfl rfl ?_
  refine m_geta C hκ 11 33 (by decide) rfl q2028 rfl dX7_lay_8 rfl ?_
  refine z_iload_n C 12 1 dX7_lay_11 rfl rfl ?_
  refine z_lload_n C 13 3 dX7_lay_12 rfl rfl ?_
  obtain ⟨w2, ew2⟩ : ∃ wz, mset w1 33 (s) (b) = wz := ⟨_, rfl⟩
  have hw2 : mWF w2 := ew2 ▸ hw1.setL r_b rfl rfl
  refine m_last (len := 8) (w' := w2) C hκ hD 14 33 (by decide) rfl rfl (by omega) (by omega) dX7_lay_13 rfl ew2 ?_
  exact z_vret C dX7_lay_14 (Nat.le_of_ble_eq_true rfl) (Nat.le_of_ble_eq_true rfl) ⟨rfl, (congrArg (fun w' => mP θ am ar w' N) (by subst_vars; rfl))⟩
set_option maxRecDepth 100000 in
theorem k7_fit {l : Launch} {θ : zTh} {N : zMap} {am : Nat} {ar : Nat → Nat} {w : mW} (hD : mDis am ar) (hw : mWF w) (a : Int) (b : Int) (r_a : inR a) (r_b : inL b) (hB : mB w) (ha : 0 ≤ a ∧ a ≤ 8) : ZF θ l yX7_fit cX7_fit 4 (some .boolean) ⟨1, 0, 0, 25⟩ [.ref (am), .int (iI (a)), .long (lI (b))] (mP θ am ar w N) (some (.int (iI (bI (ftB w a b))))) (mP θ am ar w N) := by
  refine z_start (own := RX7) (nm := "fit") pnX7 rfl rfl (Nat.le_of_ble_eq_true rfl) ?_
  intro κ hκ hκl C
  change Z κ (mP θ am ar w N) 0 0 0 [(0, .ref (am)), (1, .int (iI (a))), (2, .long (lI (b)))] []
  have hB' := hB; obtain ⟨hB1, hB2, hB3, hB4, hB5, hB6⟩ := hB'
  refine z_iload_n C 1 1 dX7_fit_0 rfl rfl ?_
  have c1r : inR (a) := r_a
  rcases (show a = 0 ∨ a = 1 ∨ a = 2 ∨ a = 3 ∨ a = 4 ∨ a = 5 ∨ a = 6 ∨ a = 7 ∨ (a < 0 ∨ 7 < a) by omega) with c1 | c1 | c1 | c1 | c1 | c1 | c1 | c1 | c1
  · skip
    refine z_tsIn C (a) 48 (off := 47) dX7_fit_1 c1r (by omega) (by omega) (by rw [c1]; rfl) (by decide) ?_
    refine z_lload_n C 49 2 dX7_fit_48 rfl rfl ?_
    refine z_lconst (x := 0) C 50 dX7_fit_49 rfl rfl ?_
    refine z_lconst (x := 1) C 51 dX7_fit_50 rfl rfl ?_
    refine z_callSF (n' := 0) (k' := 0) (As := [.long (lI (b)), .long (lI (0)), .long (lI (1))]) (rest := []) C hκ hκl 54 (k7_in (b) (0) (1) r_b ⟨by decide, by decide⟩ ⟨by decide, by decide⟩) dX7_fit_51 q2164 q2165 q97 q2166 znX7_in (Nat.le_of_ble_eq_true rfl) (Nat.le_of_ble_eq_true rfl) (Nat.le_of_ble_eq_true rfl) (Nat.le_of_ble_eq_true rfl) rfl (Nat.le_of_ble_eq_true rfl) rfl rfl rfl ?_
    exact z_iret C dX7_fit_54 (bI_nar _) (Nat.le_of_ble_eq_true rfl) (Nat.le_of_ble_eq_true rfl) ⟨congrArg (fun b => some (Value.int (iI (bI b)))) (by clear C hκ hκl  hB hD hw; unfold ftB; first | (simp_all; done) | grind), rfl⟩
  · skip
    refine z_tsIn C (a) 55 (off := 54) dX7_fit_1 c1r (by omega) (by omega) (by rw [c1]; rfl) (by decide) ?_
    refine z_lload_n C 56 2 dX7_fit_55 rfl rfl ?_
    refine z_lconst (x := 0) C 57 dX7_fit_56 rfl rfl ?_
    refine z_ldc2 (z := 65535) C 60 dX7_fit_57 q2386 (by decide) rfl ?_
    refine z_callSF (n' := 0) (k' := 0) (As := [.long (lI (b)), .long (lI (0)), .long (lI (65535))]) (rest := []) C hκ hκl 63 (k7_in (b) (0) (65535) r_b ⟨by decide, by decide⟩ ⟨by decide, by decide⟩) dX7_fit_60 q2164 q2165 q97 q2166 znX7_in (Nat.le_of_ble_eq_true rfl) (Nat.le_of_ble_eq_true rfl) (Nat.le_of_ble_eq_true rfl) (Nat.le_of_ble_eq_true rfl) rfl (Nat.le_of_ble_eq_true rfl) rfl rfl rfl ?_
    exact z_iret C dX7_fit_63 (bI_nar _) (Nat.le_of_ble_eq_true rfl) (Nat.le_of_ble_eq_true rfl) ⟨congrArg (fun b => some (Value.int (iI (bI b)))) (by clear C hκ hκl  hB hD hw; unfold ftB; first | (simp_all; done) | grind), rfl⟩
  · skip
    refine z_tsIn C (a) 64 (off := 63) dX7_fit_1 c1r (by omega) (by omega) (by rw [c1]; rfl) (by decide) ?_
    refine z_lload_n C 65 2 dX7_fit_64 rfl rfl ?_
    refine z_ldc2 (z := (-128)) C 68 dX7_fit_65 q2387 (by decide) rfl ?_
    refine z_ldc2 (z := 127) C 71 dX7_fit_68 q2388 (by decide) rfl ?_
    refine z_callSF (n' := 0) (k' := 0) (As := [.long (lI (b)), .long (lI (-128)), .long (lI (127))]) (rest := []) C hκ hκl 74 (k7_in (b) (-128) (127) r_b ⟨by decide, by decide⟩ ⟨by decide, by decide⟩) dX7_fit_71 q2164 q2165 q97 q2166 znX7_in (Nat.le_of_ble_eq_true rfl) (Nat.le_of_ble_eq_true rfl) (Nat.le_of_ble_eq_true rfl) (Nat.le_of_ble_eq_true rfl) rfl (Nat.le_of_ble_eq_true rfl) rfl rfl rfl ?_
    exact z_iret C dX7_fit_74 (bI_nar _) (Nat.le_of_ble_eq_true rfl) (Nat.le_of_ble_eq_true rfl) ⟨congrArg (fun b => some (Value.int (iI (bI b)))) (by clear C hκ hκl  hB hD hw; unfold ftB; first | (simp_all; done) | grind), rfl⟩
  · skip
    refine z_tsIn C (a) 75 (off := 74) dX7_fit_1 c1r (by omega) (by omega) (by rw [c1]; rfl) (by decide) ?_
    refine z_lload_n C 76 2 dX7_fit_75 rfl rfl ?_
    refine z_ldc2 (z := (-32768)) C 79 dX7_fit_76 q2389 (by decide) rfl ?_
    refine z_ldc2 (z := 32767) C 82 dX7_fit_79 q2390 (by decide) rfl ?_
    refine z_callSF (n' := 0) (k' := 0) (As := [.long (lI (b)), .long (lI (-32768)), .long (lI (32767))]) (rest := []) C hκ hκl 85 (k7_in (b) (-32768) (32767) r_b ⟨by decide, by decide⟩ ⟨by decide, by decide⟩) dX7_fit_82 q2164 q2165 q97 q2166 znX7_in (Nat.le_of_ble_eq_true rfl) (Nat.le_of_ble_eq_true rfl) (Nat.le_of_ble_eq_true rfl) (Nat.le_of_ble_eq_true rfl) rfl (Nat.le_of_ble_eq_true rfl) rfl rfl rfl ?_
    exact z_iret C dX7_fit_85 (bI_nar _) (Nat.le_of_ble_eq_true rfl) (Nat.le_of_ble_eq_true rfl) ⟨congrArg (fun b => some (Value.int (iI (bI b)))) (by clear C hκ hκl  hB hD hw; unfold ftB; first | (simp_all; done) | grind), rfl⟩
  · skip
    refine z_tsIn C (a) 86 (off := 85) dX7_fit_1 c1r (by omega) (by omega) (by rw [c1]; rfl) (by decide) ?_
    refine z_lload_n C 87 2 dX7_fit_86 rfl rfl ?_
    refine z_ldc2 (z := (-2147483648)) C 90 dX7_fit_87 q2391 (by decide) rfl ?_
    refine z_ldc2 (z := 2147483647) C 93 dX7_fit_90 q2392 (by decide) rfl ?_
    refine z_callSF (n' := 0) (k' := 0) (As := [.long (lI (b)), .long (lI (-2147483648)), .long (lI (2147483647))]) (rest := []) C hκ hκl 96 (k7_in (b) (-2147483648) (2147483647) r_b ⟨by decide, by decide⟩ ⟨by decide, by decide⟩) dX7_fit_93 q2164 q2165 q97 q2166 znX7_in (Nat.le_of_ble_eq_true rfl) (Nat.le_of_ble_eq_true rfl) (Nat.le_of_ble_eq_true rfl) (Nat.le_of_ble_eq_true rfl) rfl (Nat.le_of_ble_eq_true rfl) rfl rfl rfl ?_
    exact z_iret C dX7_fit_96 (bI_nar _) (Nat.le_of_ble_eq_true rfl) (Nat.le_of_ble_eq_true rfl) ⟨congrArg (fun b => some (Value.int (iI (bI b)))) (by clear C hκ hκl  hB hD hw; unfold ftB; first | (simp_all; done) | grind), rfl⟩
  · skip
    refine z_tsIn C (a) 97 (off := 96) dX7_fit_1 c1r (by omega) (by omega) (by rw [c1]; rfl) (by decide) ?_
    refine z_iconst C 98 dX7_fit_97 rfl ?_
    refine z_as (st' := [.int (iI (bI (true)))]) rfl rfl rfl ?_
    exact z_iret C dX7_fit_98 (bI_nar _) (Nat.le_of_ble_eq_true rfl) (Nat.le_of_ble_eq_true rfl) ⟨congrArg (fun b => some (Value.int (iI (bI b)))) (by clear C hκ hκl  hB hD hw; unfold ftB; first | (simp_all; done) | grind), rfl⟩
  · skip
    refine z_tsIn C (a) 99 (off := 98) dX7_fit_1 c1r (by omega) (by omega) (by rw [c1]; rfl) (by decide) ?_
    refine z_lload_n C 100 2 dX7_fit_99 rfl rfl ?_
    refine z_ldc2 (z := (-2147483648)) C 103 dX7_fit_100 q2391 (by decide) rfl ?_
    refine z_ldc2 (z := 2147483647) C 106 dX7_fit_103 q2392 (by decide) rfl ?_
    refine z_callSF (n' := 0) (k' := 0) (As := [.long (lI (b)), .long (lI (-2147483648)), .long (lI (2147483647))]) (rest := []) C hκ hκl 109 (k7_in (b) (-2147483648) (2147483647) r_b ⟨by decide, by decide⟩ ⟨by decide, by decide⟩) dX7_fit_106 q2164 q2165 q97 q2166 znX7_in (Nat.le_of_ble_eq_true rfl) (Nat.le_of_ble_eq_true rfl) (Nat.le_of_ble_eq_true rfl) (Nat.le_of_ble_eq_true rfl) rfl (Nat.le_of_ble_eq_true rfl) rfl rfl rfl ?_
    refine z_ifB_eq C 128 112 dX7_fit_109 (by decide) rfl (fun c2 => ?_) (fun c2 => ?_)
    · skip
      have c2b : ¬ (((-2147483648) ≤ (b) ∧ (b) ≤ (2147483647))) := of_decide_eq_false c2
      refine z_iconst C 129 dX7_fit_128 rfl ?_
      refine z_as (st' := [.int (iI (bI (false)))]) rfl rfl rfl ?_
      exact z_iret C dX7_fit_129 (bI_nar _) (Nat.le_of_ble_eq_true rfl) (Nat.le_of_ble_eq_true rfl) ⟨congrArg (fun b => some (Value.int (iI (bI b)))) (by clear C hκ hκl  hB hD hw; unfold ftB; first | (simp_all; done) | grind), rfl⟩
    · skip
      have c2b : (((-2147483648) ≤ (b) ∧ (b) ≤ (2147483647))) := of_decide_eq_true c2
      refine z_lload_n C 113 2 dX7_fit_112 rfl rfl ?_
      refine z_ldc2 (z := 2147483647) C 116 dX7_fit_113 q2392 (by decide) rfl ?_
      refine z_land C 117 dX7_fit_116 rfl ?_
      refine z_ldc2 (z := 2139095040) C 120 dX7_fit_117 q2393 (by decide) rfl ?_
      refine z_lcmp C 121 dX7_fit_120 (inL_zlandd _ _) ⟨by decide, by decide⟩ rfl ?_
      refine z_ifC_gt C 128 124 dX7_fit_121 (by decide) rfl (fun c3 => ?_) (fun c3 => ?_)
      · skip
        refine z_iconst C 129 dX7_fit_128 rfl ?_
        refine z_as (st' := [.int (iI (bI (false)))]) rfl rfl rfl ?_
        exact z_iret C dX7_fit_129 (bI_nar _) (Nat.le_of_ble_eq_true rfl) (Nat.le_of_ble_eq_true rfl) ⟨congrArg (fun b => some (Value.int (iI (bI b)))) (by clear C hκ hκl  hB hD hw; unfold ftB; first | (simp_all; done) | grind), rfl⟩
      · skip
        refine z_iconst C 125 dX7_fit_124 rfl ?_
        refine z_goto C 129 dX7_fit_125 (by decide) ?_
        refine z_as (st' := [.int (iI (bI (true)))]) rfl rfl rfl ?_
        exact z_iret C dX7_fit_129 (bI_nar _) (Nat.le_of_ble_eq_true rfl) (Nat.le_of_ble_eq_true rfl) ⟨congrArg (fun b => some (Value.int (iI (bI b)))) (by clear C hκ hκl  hB hD hw; unfold ftB; first | (simp_all; done) | grind), rfl⟩
  · skip
    refine z_tsIn C (a) 130 (off := 129) dX7_fit_1 c1r (by omega) (by omega) (by rw [c1]; rfl) (by decide) ?_
    refine z_lload_n C 131 2 dX7_fit_130 rfl rfl ?_
    refine z_ldc2 (z := 9223372036854775807) C 134 dX7_fit_131 q2394 (by decide) rfl ?_
    refine z_land C 135 dX7_fit_134 rfl ?_
    refine z_ldc2 (z := 9218868437227405312) C 138 dX7_fit_135 q2395 (by decide) rfl ?_
    refine z_lcmp C 139 dX7_fit_138 (inL_zlandd _ _) ⟨by decide, by decide⟩ rfl ?_
    refine z_ifC_gt C 146 142 dX7_fit_139 (by decide) rfl (fun c4 => ?_) (fun c4 => ?_)
    · skip
      refine z_iconst C 147 dX7_fit_146 rfl ?_
      refine z_as (st' := [.int (iI (bI (false)))]) rfl rfl rfl ?_
      exact z_iret C dX7_fit_147 (bI_nar _) (Nat.le_of_ble_eq_true rfl) (Nat.le_of_ble_eq_true rfl) ⟨congrArg (fun b => some (Value.int (iI (bI b)))) (by clear C hκ hκl  hB hD hw; unfold ftB; first | (simp_all; done) | grind), rfl⟩
    · skip
      refine z_iconst C 143 dX7_fit_142 rfl ?_
      refine z_goto C 147 dX7_fit_143 (by decide) ?_
      refine z_as (st' := [.int (iI (bI (true)))]) rfl rfl rfl ?_
      exact z_iret C dX7_fit_147 (bI_nar _) (Nat.le_of_ble_eq_true rfl) (Nat.le_of_ble_eq_true rfl) ⟨congrArg (fun b => some (Value.int (iI (bI b)))) (by clear C hκ hκl  hB hD hw; unfold ftB; first | (simp_all; done) | grind), rfl⟩
  · skip
    refine z_tsOut C 148 dX7_fit_1 c1r c1 (by decide) ?_
    refine z_lload_n C 149 2 dX7_fit_148 rfl rfl ?_
    refine z_ldc2 (z := (-1)) C 152 dX7_fit_149 q2245 (by decide) rfl ?_
    refine z_aload_n C 153 0 dX7_fit_152 rfl rfl ?_
    refine m_geti C hκ 156 27 (by decide) rfl q2022 rfl dX7_fit_153 rfl ?_
    refine z_i2l C 157 dX7_fit_156 (hw.r _ _ rfl) rfl ?_
    refine z_lconst (x := 1) C 158 dX7_fit_157 rfl rfl ?_
    refine z_lsub C 159 dX7_fit_158 rfl ?_
    refine z_callSF (n' := 0) (k' := 0) (As := [.long (lI (b)), .long (lI (-1)), .long (lI ((w 27 0) - (1)))]) (rest := []) C hκ hκl 162 (k7_in (b) (-1) ((w 27 0) - (1)) r_b ⟨by decide, by decide⟩ (inR_L ⟨by omega, by omega⟩)) dX7_fit_159 q2164 q2165 q97 q2166 znX7_in (Nat.le_of_ble_eq_true rfl) (Nat.le_of_ble_eq_true rfl) (Nat.le_of_ble_eq_true rfl) (Nat.le_of_ble_eq_true rfl) rfl (Nat.le_of_ble_eq_true rfl) rfl rfl rfl ?_
    exact z_iret C dX7_fit_162 (bI_nar _) (Nat.le_of_ble_eq_true rfl) (Nat.le_of_ble_eq_true rfl) ⟨congrArg (fun b => some (Value.int (iI (bI b)))) (by clear C hκ hκl  hB hD hw; unfold ftB; first | (simp_all; done) | grind), rfl⟩
set_option maxRecDepth 100000 in
theorem k7_slot {l : Launch} {θ : zTh} {N : zMap} {am : Nat} {ar : Nat → Nat} {w : mW} (hD : mDis am ar) (hw : mWF w) (s : Int) (a : Int) (b : Int) (r_s : inR s) (r_a : inR a) (r_b : inL b) (hS : mS w)  : ZF θ l yX7_slot cX7_slot 5 (some .int) ⟨2, 0, 0, 48⟩ [.ref (am), .int (iI (s)), .int (iI (a)), .long (lI (b))] (mP θ am ar w N) (some (.int (iI (if slR w s a b then 1 else -1)))) (mP θ am ar (if slR w s a b then layW w s a b else w) N) := by
  refine z_start (own := RX7) (nm := "slot") pnX7 rfl rfl (Nat.le_of_ble_eq_true rfl) ?_
  intro κ hκ hκl C
  change Z κ (mP θ am ar w N) 0 0 0 [(0, .ref (am)), (1, .int (iI (s))), (2, .int (iI (a))), (3, .long (lI (b)))] []
  have hB := hS.B
  obtain ⟨hB1, hB2, hB3, hB4, hB5, hB6⟩ := hS.B
  have hC := hS.C
  refine z_iload_n C 1 1 dX7_slot_0 rfl rfl ?_
  refine z_callSF (n' := 0) (k' := 0) (As := [.int (iI (s))]) (rest := []) C hκ hκl 4 (k7_isSlot (s) r_s) dX7_slot_1 q2377 q2378 q97 q2379 znX7_isSlot (Nat.le_of_ble_eq_true rfl) (Nat.le_of_ble_eq_true rfl) (Nat.le_of_ble_eq_true rfl) (Nat.le_of_ble_eq_true rfl) rfl (Nat.le_of_ble_eq_true rfl) rfl rfl rfl ?_
  refine z_ifB_eq C 28 7 dX7_slot_4 (by decide) rfl (fun c1 => ?_) (fun c1 => ?_)
  · skip
    have c1b : ¬ (0 ≤ (s) ∧ (s) < 8) := of_decide_eq_false c1
    refine z_iconst C 29 dX7_slot_28 rfl ?_
    exact z_iret C dX7_slot_29 rfl (Nat.le_of_ble_eq_true rfl) (Nat.le_of_ble_eq_true rfl) ⟨congrArg (fun z => some (Value.int (iI z))) (by clear C hκ hκl hS hB hB1 hB2 hB3 hB4 hB5 hB6 hC hD hw; rw [if_neg]; unfold slR; first | (simp_all; done) | grind), (congrArg (fun w' => mP θ am ar w' N) (by clear C hκ hκl hS hB hB1 hB2 hB3 hB4 hB5 hB6 hC hD hw; rw [if_neg]; unfold slR; first | (simp_all; done) | grind))⟩
  · skip
    have c1b : (0 ≤ (s) ∧ (s) < 8) := of_decide_eq_true c1
    refine z_iload_n C 8 2 dX7_slot_7 rfl rfl ?_
    refine z_i2l C 9 dX7_slot_8 r_a rfl ?_
    refine z_lconst (x := 0) C 10 dX7_slot_9 rfl rfl ?_
    refine z_ldc2 (z := 8) C 13 dX7_slot_10 q2381 (by decide) rfl ?_
    refine z_callSF (n' := 0) (k' := 0) (As := [.long (lI (a)), .long (lI (0)), .long (lI (8))]) (rest := []) C hκ hκl 16 (k7_in (a) (0) (8) (inR_L r_a) ⟨by decide, by decide⟩ ⟨by decide, by decide⟩) dX7_slot_13 q2164 q2165 q97 q2166 znX7_in (Nat.le_of_ble_eq_true rfl) (Nat.le_of_ble_eq_true rfl) (Nat.le_of_ble_eq_true rfl) (Nat.le_of_ble_eq_true rfl) rfl (Nat.le_of_ble_eq_true rfl) rfl rfl rfl ?_
    refine z_ifB_eq C 28 19 dX7_slot_16 (by decide) rfl (fun c2 => ?_) (fun c2 => ?_)
    · skip
      have c2b : ¬ (((0) ≤ (a) ∧ (a) ≤ (8))) := of_decide_eq_false c2
      refine z_iconst C 29 dX7_slot_28 rfl ?_
      exact z_iret C dX7_slot_29 rfl (Nat.le_of_ble_eq_true rfl) (Nat.le_of_ble_eq_true rfl) ⟨congrArg (fun z => some (Value.int (iI z))) (by clear C hκ hκl hS hB hB1 hB2 hB3 hB4 hB5 hB6 hC hD hw; rw [if_neg]; unfold slR; first | (simp_all; done) | grind), (congrArg (fun w' => mP θ am ar w' N) (by clear C hκ hκl hS hB hB1 hB2 hB3 hB4 hB5 hB6 hC hD hw; rw [if_neg]; unfold slR; first | (simp_all; done) | grind))⟩
    · skip
      have c2b : (((0) ≤ (a) ∧ (a) ≤ (8))) := of_decide_eq_true c2
      refine z_aload_n C 20 0 dX7_slot_19 rfl rfl ?_
      refine z_iload_n C 21 2 dX7_slot_20 rfl rfl ?_
      refine z_lload_n C 22 3 dX7_slot_21 rfl rfl ?_
      refine z_callVF (n' := 0) (k' := 0) (As := [.int (iI (a)), .long (lI (b))]) (rest := []) C hκ hκl 25 (k7_fit hD hw (a) (b) r_a r_b hB (by omega)) dX7_slot_22 q2382 q2384 qs67 q97 q2385 znX7_fit (Nat.le_of_ble_eq_true rfl) (Nat.le_of_ble_eq_true rfl) (Nat.le_of_ble_eq_true rfl) (Nat.le_of_ble_eq_true rfl) mrec rfl rfl (Nat.le_of_ble_eq_true rfl) rfl rfl rfl ?_
      refine z_ifB_ne C 30 28 dX7_slot_25 (by decide) rfl (fun c3 => ?_) (fun c3 => ?_)
      · skip
        refine z_aload_n C 31 0 dX7_slot_30 rfl rfl ?_
        refine z_iload_n C 32 1 dX7_slot_31 rfl rfl ?_
        refine z_iload_n C 33 2 dX7_slot_32 rfl rfl ?_
        refine z_lload_n C 34 3 dX7_slot_33 rfl rfl ?_
        refine z_callVF0 (n' := 0) (k' := 0) (As := [.int (iI (s)), .int (iI (a)), .long (lI (b))]) (rest := []) C hκ hκl 37 (k7_lay hD hw (s) (a) (b) r_s r_a r_b (by omega)) dX7_slot_34 q2396 q2398 qs68 q97 q2399 znX7_lay (Nat.le_of_ble_eq_true rfl) (Nat.le_of_ble_eq_true rfl) (Nat.le_of_ble_eq_true rfl) (Nat.le_of_ble_eq_true rfl) mrec rfl rfl (Nat.le_of_ble_eq_true rfl) rfl rfl rfl ?_
        obtain ⟨w1, ew1⟩ : ∃ wz, layW w (s) (a) (b) = wz := ⟨_, rfl⟩
        rw [ew1]
        have hw1 : mWF w1 := ew1 ▸ ((hw.set r_a rfl).setL r_b rfl rfl)
        refine z_iconst C 38 dX7_slot_37 rfl ?_
        exact z_iret C dX7_slot_38 rfl (Nat.le_of_ble_eq_true rfl) (Nat.le_of_ble_eq_true rfl) ⟨congrArg (fun z => some (Value.int (iI z))) (by clear C hκ hκl hS hB hB1 hB2 hB3 hB4 hB5 hB6 hC hD hw; rw [if_pos]; unfold slR; first | (simp_all; done) | grind), (congrArg (fun w' => mP θ am ar w' N) (by clear C hκ hκl hS hB hB1 hB2 hB3 hB4 hB5 hB6 hC hD hw; subst_vars; rw [if_pos]; unfold slR; first | (simp_all; done) | grind))⟩
      · skip
        refine z_iconst C 29 dX7_slot_28 rfl ?_
        exact z_iret C dX7_slot_29 rfl (Nat.le_of_ble_eq_true rfl) (Nat.le_of_ble_eq_true rfl) ⟨congrArg (fun z => some (Value.int (iI z))) (by clear C hκ hκl hS hB hB1 hB2 hB3 hB4 hB5 hB6 hC hD hw; rw [if_neg]; unfold slR; first | (simp_all; done) | grind), (congrArg (fun w' => mP θ am ar w' N) (by clear C hκ hκl hS hB hB1 hB2 hB3 hB4 hB5 hB6 hC hD hw; rw [if_neg]; unfold slR; first | (simp_all; done) | grind))⟩
set_option maxRecDepth 100000 in
theorem k7_caller {l : Launch} {θ : zTh} {N : zMap} {am : Nat} {ar : Nat → Nat} {w : mW} (hD : mDis am ar) (hw : mWF w) (t : Int) (r_t : inR t) (hS : mS w)  : ZF θ l yX7_caller cX7_caller 3 (some .int) ⟨3, 0, 0, 67⟩ [.ref (am), .int (iI (t))] (mP θ am ar w N) (some (.int (iI (if clrB w t then w 34 0 else -1)))) (mP θ am ar (if clrB w t then mset w 34 0 t else w) N) := by
  refine z_start (own := RX7) (nm := "caller") pnX7 rfl rfl (Nat.le_of_ble_eq_true rfl) ?_
  intro κ hκ hκl C
  change Z κ (mP θ am ar w N) 0 0 0 [(0, .ref (am)), (1, .int (iI (t)))] []
  have hB := hS.B
  obtain ⟨hB1, hB2, hB3, hB4, hB5, hB6⟩ := hS.B
  have hC := hS.C
  refine z_aload_n C 1 0 dX7_caller_0 rfl rfl ?_
  refine z_iload_n C 2 1 dX7_caller_1 rfl rfl ?_
  refine z_callVF (n' := 0) (k' := 0) (As := [.int (iI (t))]) (rest := []) C hκ hκl 5 (k7_isReference hD hw (t) r_t hB) dX7_caller_2 q2220 q2222 qs46 q97 q2223 znX7_isReference (Nat.le_of_ble_eq_true rfl) (Nat.le_of_ble_eq_true rfl) (Nat.le_of_ble_eq_true rfl) (Nat.le_of_ble_eq_true rfl) mrec rfl rfl (Nat.le_of_ble_eq_true rfl) rfl rfl rfl ?_
  refine z_ifB_eq C 18 8 dX7_caller_5 (by decide) rfl (fun c1 => ?_) (fun c1 => ?_)
  · skip
    have c1b : ¬ (8 ≤ (t) ∧ (t) < w 0 0) := of_decide_eq_false c1
    refine z_iconst C 19 dX7_caller_18 rfl ?_
    exact z_iret C dX7_caller_19 rfl (Nat.le_of_ble_eq_true rfl) (Nat.le_of_ble_eq_true rfl) ⟨congrArg (fun z => some (Value.int (iI z))) (by clear C hκ hκl hS hB hB1 hB2 hB3 hB4 hB5 hB6 hC hD hw; unfold clrB; simp_all), (congrArg (fun w' => mP θ am ar w' N) (by clear C hκ hκl hS hB hB1 hB2 hB3 hB4 hB5 hB6 hC hD hw; unfold clrB; simp_all))⟩
  · skip
    have c1b : (8 ≤ (t) ∧ (t) < w 0 0) := of_decide_eq_true c1
    refine z_aload_n C 9 0 dX7_caller_8 rfl rfl ?_
    refine m_geta C hκ 12 1 (by decide) rfl q1996 rfl dX7_caller_9 rfl ?_
    refine z_iload_n C 13 1 dX7_caller_12 rfl rfl ?_
    obtain ⟨f2a, f2b, f2c, f2d, f2e, f2f, f2g, f2h⟩ := hS.T (show 0 ≤ t by omega) (by omega)
    refine m_iald (len := 60) C hκ hD 14 1 (by decide) rfl rfl (by omega) (by omega) dX7_caller_13 rfl ?_
    refine z_iconst C 15 dX7_caller_14 rfl ?_
    refine z_icmp_ne C 20 18 dX7_caller_15 (by decide) (hw.r _ _ rfl) ⟨by decide, by decide⟩ rfl (fun c3 => ?_) (fun c3 => ?_)
    · skip
      refine z_aload_n C 21 0 dX7_caller_20 rfl rfl ?_
      refine m_geti C hκ 24 34 (by decide) rfl q2029 rfl dX7_caller_21 rfl ?_
      refine z_istore_n (lv' := [(0, .ref (am)), (1, .int (iI (t))), (2, .int (iI (w 34 0)))]) C 25 [1, 2, 0] dX7_caller_24 (by decide) rfl rfl ?_
      refine z_aload_n C 26 0 dX7_caller_25 rfl rfl ?_
      refine z_iload_n C 27 1 dX7_caller_26 rfl rfl ?_
      obtain ⟨w1, ew1⟩ : ∃ wz, mset w 34 (0) (t) = wz := ⟨_, rfl⟩
      have hw1 : mWF w1 := ew1 ▸ hw.set r_t rfl
      refine m_puti (w' := w1) C hκ 30 34 (by decide) (by decide) rfl q2029 rfl rfl rfl rfl dX7_caller_27 rfl ew1 ?_
      refine z_iload_n C 31 2 dX7_caller_30 rfl rfl ?_
      exact z_iret C dX7_caller_31 rfl (Nat.le_of_ble_eq_true rfl) (Nat.le_of_ble_eq_true rfl) ⟨congrArg (fun z => some (Value.int (iI z))) (by clear C hκ hκl hS hB hB1 hB2 hB3 hB4 hB5 hB6 hC hD hw f2a f2b f2c f2d f2e f2f f2g f2h; unfold clrB; simp_all), (congrArg (fun w' => mP θ am ar w' N) (by clear C hκ hκl hS hB hB1 hB2 hB3 hB4 hB5 hB6 hC hD hw f2a f2b f2c f2d f2e f2f f2g f2h; unfold clrB; simp_all))⟩
    · skip
      refine z_iconst C 19 dX7_caller_18 rfl ?_
      exact z_iret C dX7_caller_19 rfl (Nat.le_of_ble_eq_true rfl) (Nat.le_of_ble_eq_true rfl) ⟨congrArg (fun z => some (Value.int (iI z))) (by clear C hκ hκl hS hB hB1 hB2 hB3 hB4 hB5 hB6 hC hD hw f2a f2b f2c f2d f2e f2f f2g f2h; unfold clrB; simp_all), (congrArg (fun w' => mP θ am ar w' N) (by clear C hκ hκl hS hB hB1 hB2 hB3 hB4 hB5 hB6 hC hD hw f2a f2b f2c f2d f2e f2f f2g f2h; unfold clrB; simp_all))⟩
set_option maxRecDepth 100000 in
theorem k7_open {l : Launch} {θ : zTh} {N : zMap} {am : Nat} {ar : Nat → Nat} {w : mW} (hD : mDis am ar) (hw : mWF w) (m : Int) (b : Bool) (r_m : inR m) (hS : mS w)  : ZF θ l yX7_open cX7_open 4 (some .int) ⟨2, 0, 0, 46⟩ [.ref (am), .int (iI (m)), .int (iI (bI (b)))] (mP θ am ar w N) (some (.int (iI (if mbB w m then bI (mb w 20 m) else -1)))) (mP θ am ar (if mbB w m then mset w 20 m (bI b) else w) N) := by
  refine z_start (own := RX7) (nm := "open") pnX7 rfl rfl (Nat.le_of_ble_eq_true rfl) ?_
  intro κ hκ hκl C
  change Z κ (mP θ am ar w N) 0 0 0 [(0, .ref (am)), (1, .int (iI (m))), (2, .int (iI (bI (b))))] []
  have hB := hS.B
  obtain ⟨hB1, hB2, hB3, hB4, hB5, hB6⟩ := hS.B
  have hC := hS.C
  refine z_aload_n C 1 0 dX7_open_0 rfl rfl ?_
  refine z_iload_n C 2 1 dX7_open_1 rfl rfl ?_
  refine z_callVF (n' := 0) (k' := 0) (As := [.int (iI (m))]) (rest := []) C hκ hκl 5 (k7_isMember hD hw (m) r_m hB) dX7_open_2 q2259 q2261 qs50 q97 q2262 znX7_isMember (Nat.le_of_ble_eq_true rfl) (Nat.le_of_ble_eq_true rfl) (Nat.le_of_ble_eq_true rfl) (Nat.le_of_ble_eq_true rfl) mrec rfl rfl (Nat.le_of_ble_eq_true rfl) rfl rfl rfl ?_
  refine z_ifB_ne C 10 8 dX7_open_5 (by decide) rfl (fun c1 => ?_) (fun c1 => ?_)
  · skip
    have c1b : (0 ≤ (m) ∧ (m) < w 11 0) := of_decide_eq_true c1
    refine z_aload_n C 11 0 dX7_open_10 rfl rfl ?_
    refine m_geta C hκ 14 20 (by decide) rfl q2015 rfl dX7_open_11 rfl ?_
    refine z_iload_n C 15 1 dX7_open_14 rfl rfl ?_
    obtain ⟨f2a, f2b, f2c, f2d⟩ := hS.M (show 0 ≤ m by omega) (by omega)
    refine m_bald (len := 100) C hκ hD hw 16 20 (by decide) rfl rfl rfl (by omega) (by omega) dX7_open_15 rfl ?_
    refine z_ifB_eq C 23 19 dX7_open_16 (by decide) rfl (fun c3 => ?_) (fun c3 => ?_)
    · skip
      have c3b : ¬ (w 20 (m) = 1) := of_decide_eq_false c3
      refine z_iconst C 24 dX7_open_23 rfl ?_
      refine z_istore_n (lv' := [(0, .ref (am)), (1, .int (iI (m))), (2, .int (iI (bI (b)))), (3, .int (iI (0)))]) C 25 [1, 2, 3, 0] dX7_open_24 (by decide) rfl rfl ?_
      refine z_aload_n C 26 0 dX7_open_25 rfl rfl ?_
      refine m_geta C hκ 29 20 (by decide) rfl q2015 rfl dX7_open_26 rfl ?_
      refine z_iload_n C 30 1 dX7_open_29 rfl rfl ?_
      refine z_iload_n C 31 2 dX7_open_30 rfl rfl ?_
      obtain ⟨w1, ew1⟩ : ∃ wz, mset w 20 (m) (bI (b)) = wz := ⟨_, rfl⟩
      have hw1 : mWF w1 := ew1 ▸ hw.setB (bI_01 _)
      refine m_bast (len := 100) (w' := w1) C hκ hD 32 20 (by decide) rfl rfl (by omega) (by omega) (bI_01 _) dX7_open_31 rfl ew1 ?_
      refine z_iload_n C 33 3 dX7_open_32 rfl rfl ?_
      exact z_iret C dX7_open_33 rfl (Nat.le_of_ble_eq_true rfl) (Nat.le_of_ble_eq_true rfl) ⟨congrArg (fun z => some (Value.int (iI z))) (by clear C hκ hκl hS hB hB1 hB2 hB3 hB4 hB5 hB6 hC hD hw f2a f2b f2c f2d; simp_all [bI]), (congrArg (fun w' => mP θ am ar w' N) (by clear C hκ hκl hS hB hB1 hB2 hB3 hB4 hB5 hB6 hC hD hw f2a f2b f2c f2d; simp_all))⟩
    · skip
      have c3b : (w 20 (m) = 1) := of_decide_eq_true c3
      refine z_iconst C 20 dX7_open_19 rfl ?_
      refine z_goto C 24 dX7_open_20 (by decide) ?_
      refine z_istore_n (lv' := [(0, .ref (am)), (1, .int (iI (m))), (2, .int (iI (bI (b)))), (3, .int (iI (1)))]) C 25 [1, 2, 3, 0] dX7_open_24 (by decide) rfl rfl ?_
      refine z_aload_n C 26 0 dX7_open_25 rfl rfl ?_
      refine m_geta C hκ 29 20 (by decide) rfl q2015 rfl dX7_open_26 rfl ?_
      refine z_iload_n C 30 1 dX7_open_29 rfl rfl ?_
      refine z_iload_n C 31 2 dX7_open_30 rfl rfl ?_
      obtain ⟨w2, ew2⟩ : ∃ wz, mset w 20 (m) (bI (b)) = wz := ⟨_, rfl⟩
      have hw2 : mWF w2 := ew2 ▸ hw.setB (bI_01 _)
      refine m_bast (len := 100) (w' := w2) C hκ hD 32 20 (by decide) rfl rfl (by omega) (by omega) (bI_01 _) dX7_open_31 rfl ew2 ?_
      refine z_iload_n C 33 3 dX7_open_32 rfl rfl ?_
      exact z_iret C dX7_open_33 rfl (Nat.le_of_ble_eq_true rfl) (Nat.le_of_ble_eq_true rfl) ⟨congrArg (fun z => some (Value.int (iI z))) (by clear C hκ hκl hS hB hB1 hB2 hB3 hB4 hB5 hB6 hC hD hw f2a f2b f2c f2d; simp_all [bI]), (congrArg (fun w' => mP θ am ar w' N) (by clear C hκ hκl hS hB hB1 hB2 hB3 hB4 hB5 hB6 hC hD hw f2a f2b f2c f2d; simp_all))⟩
  · skip
    have c1b : ¬ (0 ≤ (m) ∧ (m) < w 11 0) := of_decide_eq_false c1
    refine z_iconst C 9 dX7_open_8 rfl ?_
    exact z_iret C dX7_open_9 rfl (Nat.le_of_ble_eq_true rfl) (Nat.le_of_ble_eq_true rfl) ⟨congrArg (fun z => some (Value.int (iI z))) (by clear C hκ hκl hS hB hB1 hB2 hB3 hB4 hB5 hB6 hC hD hw; simp_all [bI]), (congrArg (fun w' => mP θ am ar w' N) (by clear C hκ hκl hS hB hB1 hB2 hB3 hB4 hB5 hB6 hC hD hw; simp_all))⟩
set_option maxRecDepth 100000 in
theorem k7_declare {l : Launch} {θ : zTh} {N : zMap} {am : Nat} {ar : Nat → Nat} {w : mW} (hD : mDis am ar) (hw : mWF w) (t : Int) (n : Int) (k : Int) (y : Int) (f : Bool) (r_t : inR t) (r_n : inR n) (r_k : inR k) (r_y : inR y) (hm : 0 ≤ w 11 0 ∧ w 11 0 < 100) : ZF θ l yX7_declare cX7_declare 7 (some .int) ⟨1, 0, 0, 20⟩ [.ref (am), .int (iI (t)), .int (iI (n)), .int (iI (k)), .int (iI (y)), .int (iI (bI (f)))] (mP θ am ar w N) (some (.int (iI (w 11 0)))) (mP θ am ar (dW w t n k y f) N) := by
  refine z_start (own := RX7) (nm := "declare") pnX7 rfl rfl (Nat.le_of_ble_eq_true rfl) ?_
  intro κ hκ hκl C
  change Z κ (mP θ am ar w N) 0 0 0 [(0, .ref (am)), (1, .int (iI (t))), (2, .int (iI (n))), (3, .int (iI (k))), (4, .int (iI (y))), (5, .int (iI (bI (f))))] []
  refine z_aload_n C 1 0 dX7_declare_0 rfl rfl ?_
  refine m_geti C hκ 4 11 (by decide) rfl q2006 rfl dX7_declare_1 rfl ?_
  refine z_istore (lv' := [(0, .ref (am)), (1, .int (iI (t))), (2, .int (iI (n))), (3, .int (iI (k))), (4, .int (iI (y))), (5, .int (iI (bI (f)))), (6, .int (iI (w 11 0)))]) C 6 [1, 2, 3, 4, 5, 6, 0] dX7_declare_4 (by decide) rfl rfl ?_
  refine z_aload_n C 7 0 dX7_declare_6 rfl rfl ?_
  refine z_dup C 8 dX7_declare_7 rfl rfl ?_
  refine m_geti C hκ 11 11 (by decide) rfl q2006 rfl dX7_declare_8 rfl ?_
  refine z_iconst C 12 dX7_declare_11 rfl ?_
  refine z_iadd C 13 dX7_declare_12 rfl ?_
  obtain ⟨w1, ew1⟩ : ∃ wz, mset w 11 (0) ((w 11 0) + (1)) = wz := ⟨_, rfl⟩
  have hw1 : mWF w1 := ew1 ▸ hw.set ⟨by omega, by omega⟩ rfl
  refine m_puti (w' := w1) C hκ 16 11 (by decide) (by decide) rfl q2006 rfl rfl rfl rfl dX7_declare_13 rfl ew1 ?_
  refine z_aload_n C 17 0 dX7_declare_16 rfl rfl ?_
  refine m_geta C hκ 20 13 (by decide) rfl q2008 rfl dX7_declare_17 rfl ?_
  refine z_iload C 22 6 dX7_declare_20 rfl rfl ?_
  refine z_iload_n C 23 1 dX7_declare_22 rfl rfl ?_
  obtain ⟨w2, ew2⟩ : ∃ wz, mset w1 13 (w 11 0) (t) = wz := ⟨_, rfl⟩
  have hw2 : mWF w2 := ew2 ▸ hw1.set r_t rfl
  refine m_iast (len := 100) (w' := w2) C hκ hD 24 13 (by decide) rfl rfl (by omega) (by omega) dX7_declare_23 rfl ew2 ?_
  refine z_aload_n C 25 0 dX7_declare_24 rfl rfl ?_
  refine m_geta C hκ 28 14 (by decide) rfl q2009 rfl dX7_declare_25 rfl ?_
  refine z_iload C 30 6 dX7_declare_28 rfl rfl ?_
  refine z_iload_n C 31 2 dX7_declare_30 rfl rfl ?_
  obtain ⟨w3, ew3⟩ : ∃ wz, mset w2 14 (w 11 0) (n) = wz := ⟨_, rfl⟩
  have hw3 : mWF w3 := ew3 ▸ hw2.set r_n rfl
  refine m_iast (len := 100) (w' := w3) C hκ hD 32 14 (by decide) rfl rfl (by omega) (by omega) dX7_declare_31 rfl ew3 ?_
  refine z_aload_n C 33 0 dX7_declare_32 rfl rfl ?_
  refine m_geta C hκ 36 15 (by decide) rfl q2010 rfl dX7_declare_33 rfl ?_
  refine z_iload C 38 6 dX7_declare_36 rfl rfl ?_
  refine z_iload_n C 39 3 dX7_declare_38 rfl rfl ?_
  obtain ⟨w4, ew4⟩ : ∃ wz, mset w3 15 (w 11 0) (k) = wz := ⟨_, rfl⟩
  have hw4 : mWF w4 := ew4 ▸ hw3.set r_k rfl
  refine m_iast (len := 100) (w' := w4) C hκ hD 40 15 (by decide) rfl rfl (by omega) (by omega) dX7_declare_39 rfl ew4 ?_
  refine z_aload_n C 41 0 dX7_declare_40 rfl rfl ?_
  refine m_geta C hκ 44 17 (by decide) rfl q2012 rfl dX7_declare_41 rfl ?_
  refine z_iload C 46 6 dX7_declare_44 rfl rfl ?_
  refine z_iload C 48 4 dX7_declare_46 rfl rfl ?_
  obtain ⟨w5, ew5⟩ : ∃ wz, mset w4 17 (w 11 0) (y) = wz := ⟨_, rfl⟩
  have hw5 : mWF w5 := ew5 ▸ hw4.set r_y rfl
  refine m_iast (len := 100) (w' := w5) C hκ hD 49 17 (by decide) rfl rfl (by omega) (by omega) dX7_declare_48 rfl ew5 ?_
  refine z_aload_n C 50 0 dX7_declare_49 rfl rfl ?_
  refine m_geta C hκ 53 16 (by decide) rfl q2011 rfl dX7_declare_50 rfl ?_
  refine z_iload C 55 6 dX7_declare_53 rfl rfl ?_
  refine z_iload C 57 5 dX7_declare_55 rfl rfl ?_
  obtain ⟨w6, ew6⟩ : ∃ wz, mset w5 16 (w 11 0) (bI (f)) = wz := ⟨_, rfl⟩
  have hw6 : mWF w6 := ew6 ▸ hw5.setB (bI_01 _)
  refine m_bast (len := 100) (w' := w6) C hκ hD 58 16 (by decide) rfl rfl (by omega) (by omega) (bI_01 _) dX7_declare_57 rfl ew6 ?_
  refine z_aload_n C 59 0 dX7_declare_58 rfl rfl ?_
  refine m_geta C hκ 62 18 (by decide) rfl q2013 rfl dX7_declare_59 rfl ?_
  refine z_iload C 64 6 dX7_declare_62 rfl rfl ?_
  refine z_iconst C 65 dX7_declare_64 rfl ?_
  obtain ⟨w7, ew7⟩ : ∃ wz, mset w6 18 (w 11 0) (0) = wz := ⟨_, rfl⟩
  have hw7 : mWF w7 := ew7 ▸ hw6.set ⟨by decide, by decide⟩ rfl
  refine m_iast (len := 100) (w' := w7) C hκ hD 66 18 (by decide) rfl rfl (by omega) (by omega) dX7_declare_65 rfl ew7 ?_
  refine z_aload_n C 67 0 dX7_declare_66 rfl rfl ?_
  refine m_geta C hκ 70 20 (by decide) rfl q2015 rfl dX7_declare_67 rfl ?_
  refine z_iload C 72 6 dX7_declare_70 rfl rfl ?_
  refine z_iconst C 73 dX7_declare_72 rfl ?_
  obtain ⟨w8, ew8⟩ : ∃ wz, mset w7 20 (w 11 0) (0) = wz := ⟨_, rfl⟩
  have hw8 : mWF w8 := ew8 ▸ hw7.setB (Or.inl rfl)
  refine m_bast (len := 100) (w' := w8) C hκ hD 74 20 (by decide) rfl rfl (by omega) (by omega) (Or.inl rfl) dX7_declare_73 rfl ew8 ?_
  refine z_aload_n C 75 0 dX7_declare_74 rfl rfl ?_
  refine m_geta C hκ 78 21 (by decide) rfl q2016 rfl dX7_declare_75 rfl ?_
  refine z_iload C 80 6 dX7_declare_78 rfl rfl ?_
  refine z_iconst C 81 dX7_declare_80 rfl ?_
  obtain ⟨w9, ew9⟩ : ∃ wz, mset w8 21 (w 11 0) (0) = wz := ⟨_, rfl⟩
  have hw9 : mWF w9 := ew9 ▸ hw8.setB (Or.inl rfl)
  refine m_bast (len := 100) (w' := w9) C hκ hD 82 21 (by decide) rfl rfl (by omega) (by omega) (Or.inl rfl) dX7_declare_81 rfl ew9 ?_
  refine z_aload_n C 83 0 dX7_declare_82 rfl rfl ?_
  refine m_geta C hκ 86 22 (by decide) rfl q2017 rfl dX7_declare_83 rfl ?_
  refine z_iload C 88 6 dX7_declare_86 rfl rfl ?_
  refine z_iconst C 89 dX7_declare_88 rfl ?_
  obtain ⟨w10, ew10⟩ : ∃ wz, mset w9 22 (w 11 0) (0) = wz := ⟨_, rfl⟩
  have hw10 : mWF w10 := ew10 ▸ hw9.set ⟨by decide, by decide⟩ rfl
  refine m_iast (len := 100) (w' := w10) C hκ hD 90 22 (by decide) rfl rfl (by omega) (by omega) dX7_declare_89 rfl ew10 ?_
  refine z_aload_n C 91 0 dX7_declare_90 rfl rfl ?_
  refine m_geta C hκ 94 26 (by decide) rfl q2021 rfl dX7_declare_91 rfl ?_
  refine z_iload C 96 6 dX7_declare_94 rfl rfl ?_
  refine z_iload C 98 4 dX7_declare_96 rfl rfl ?_
  refine z_callSF (n' := 0) (k' := 0) (As := [.int (iI (y))]) (rest := [.int (iI (w 11 0)), .ref (ar 26)]) C hκ hκl 101 (k7_none (y) r_y) dX7_declare_98 q2242 q2243 q97 q2244 znX7_none (Nat.le_of_ble_eq_true rfl) (Nat.le_of_ble_eq_true rfl) (Nat.le_of_ble_eq_true rfl) (Nat.le_of_ble_eq_true rfl) rfl (Nat.le_of_ble_eq_true rfl) rfl rfl rfl ?_
  obtain ⟨w11, ew11⟩ : ∃ wz, mset w10 26 (w 11 0) (noneI (y)) = wz := ⟨_, rfl⟩
  have hw11 : mWF w11 := ew11 ▸ hw10.setL (noneI_L _) rfl rfl
  refine m_last (len := 100) (w' := w11) C hκ hD 102 26 (by decide) rfl rfl (by omega) (by omega) dX7_declare_101 rfl ew11 ?_
  refine z_iload C 104 6 dX7_declare_102 rfl rfl ?_
  exact z_iret C dX7_declare_104 rfl (Nat.le_of_ble_eq_true rfl) (Nat.le_of_ble_eq_true rfl) ⟨congrArg (fun z => some (Value.int (iI z))) (rfl), (congrArg (fun w' => mP θ am ar w' N) (by subst_vars; rfl))⟩
