/-! ===== the Model's ways to new types ===== -/
def ntW (w : mW) (s p k : Int) : mW := mset (mset (mset (mset w 0 0 (w 0 0 + 1)) 1 (w 0 0) s) 2 (w 0 0) p) 3 (w 0 0) k
theorem ntW_k {w : mW} {s p k : Int} {f : Nat} {i : Int} (h0 : f ≠ 0) (h1 : f ≠ 1) (h2 : f ≠ 2) (h3 : f ≠ 3) : ntW w s p k f i = w f i := by
  unfold ntW; rw [mset_k h3, mset_k h2, mset_k h1, mset_k h0]
theorem ntW_i {w : mW} {s p k : Int} {f : Nat} {i : Int} (h0 : f ≠ 0) (hi : i ≠ w 0 0) : ntW w s p k f i = w f i := by
  unfold ntW mset; simp [hi, h0]
theorem ntW_0 {w : mW} {s p k : Int} : ntW w s p k 0 0 = w 0 0 + 1 := by
  unfold ntW; rw [mset_k (by decide), mset_k (by decide), mset_k (by decide), mset_s]
theorem ntW_1 {w : mW} {s p k : Int} : ntW w s p k 1 (w 0 0) = s := by
  unfold ntW; rw [mset_k (by decide), mset_k (by decide), mset_s]
theorem ntW_2 {w : mW} {s p k : Int} : ntW w s p k 2 (w 0 0) = p := by
  unfold ntW; rw [mset_k (by decide), mset_s]
theorem ntW_3 {w : mW} {s p k : Int} : ntW w s p k 3 (w 0 0) = k := by unfold ntW; rw [mset_s]
/-- the data of the types to come are clear -/
def mNew (w : mW) : Prop := ∀ t : Int, w 0 0 ≤ t → t < 60 → w 6 t = 0 ∧ w 4 t = -1 ∧ w 5 t = -1 ∧ w 2 t = -1
theorem ntW_BT {w : mW} (h9 : 9 ≤ w 0 0 ∧ w 0 0 < 60) (hb : mBT w) {s p k : Int} (hs : 0 ≤ s ∧ s ≤ 4) (hp : -1 ≤ p ∧ p < w 0 0) (hc : s = 1 ∨ s = 2 → 8 ≤ p) (h6 : w 6 (w 0 0) = 0) (h4 : -1 ≤ w 4 (w 0 0) ∧ w 4 (w 0 0) < w 0 0) : mBT (ntW w s p k) := by
  intro t h0 hT
  rw [ntW_0] at hT
  by_cases ht : t = w 0 0
  · subst ht
    rw [ntW_2, ntW_k (f := 6) (by decide) (by decide) (by decide) (by decide), ntW_k (f := 4) (by decide) (by decide) (by decide) (by decide), ntW_1, h6]
    refine ⟨by omega, fun hcl _ => ?_, by omega, fun j h1 h2 => by omega, h4, ⟨hs.1, hs.2, fun _ => by omega⟩⟩
    unfold clT at hcl
    rw [ntW_1] at hcl
    exact hc (of_decide_eq_true hcl)
  · obtain ⟨b1, b2, b3, b4, b5, b6⟩ := hb t h0 (by omega)
    have e : ∀ (f : Nat), f ≠ 0 → ntW w s p k f t = w f t := fun f hf => ntW_i hf ht
    rw [e 2 (by decide), e 6 (by decide), e 4 (by decide), e 1 (by decide)]
    refine ⟨b1, fun hcl h8 => ?_, b3, fun j h1 h2 => ?_, b5, b6⟩
    · unfold clT at hcl
      rw [e 1 (by decide)] at hcl
      exact b2 hcl h8
    · rw [ntW_k (by decide) (by decide) (by decide) (by decide)]
      exact b4 j h1 h2
theorem ntW_wf {w : mW} (hw : mWF w) {s p k : Int} (h0 : inR (w 0 0 + 1)) (hs : inR s) (hp : inR p) (hk : inR k) : mWF (ntW w s p k) := (((hw.set h0 rfl).set hs rfl).set hp rfl).set hk rfl
def tyR (w : mW) (p k : Int) (a : Bool) (r : Int) (w' : mW) : Prop := if !clB w p || !decide (0 ≤ k ∧ k ≤ 3) then r = -1 ∧ w' = w else if w 0 0 = 60 then r = -3 ∧ w' = w else r = w 0 0 ∧ sBase (ntW w (if a then 2 else 1) p k) w' (w 0 0 + 1)
def fcR (w : mW) (k r : Int) (w' : mW) : Prop := if !decide (0 ≤ k ∧ k ≤ 3) then r = -1 ∧ w' = w else if w 0 0 = 60 then r = -3 ∧ w' = w else r = w 0 0 ∧ sBase (ntW w 3 (-1) k) w' (w 0 0 + 1)
def rwW (w : mW) (t : Int) : mW := ntW (mset (mset w 4 (w 0 0) t) 5 t (w 0 0)) 4 8 (if t < 8 then 0 else w 3 t)
def rwR (w : mW) (t r : Int) (w' : mW) : Prop := if !tyB w t then r = -1 ∧ w' = w else if w 5 t ≠ -1 then r = w 5 t ∧ w' = w else if w 0 0 = 60 then r = -3 ∧ w' = w else r = w 0 0 ∧ sBase (rwW w t) w' (w 0 0 + 1)
def imW (w : mW) (t f : Int) : mW := mset (mset w 7 (3 * t + w 6 t) f) 6 t (w 6 t + 1)
def imN (w : mW) (t f : Int) : Bool := decide (0 < w 27 0) || anyN (fun j => decide (w 7 (3 * t + j) = f)) (w 6 t).toNat
def imR (w : mW) (t f r : Int) (w' : mW) : Prop := if !dcB w t || !tyB w f || decide (w 1 f ≠ 3) || decide (t ≤ f) then r = -1 ∧ w' = w else if imN w t f then r = -2 ∧ w' = w else if w 6 t = 3 then r = -3 ∧ w' = w else r = w 6 t + 1 ∧ sBase (imW w t f) w' (w 0 0)
theorem imW_BT {w : mW} (hb : mBT w) {t f : Int} (h0 : 0 ≤ t ∧ t < w 0 0) (hf : 8 ≤ f ∧ f < t) (h6 : w 6 t < 3) : mBT (imW w t f) := by
  have e0 : ∀ (g : Nat) (i : Int), g ≠ 6 → g ≠ 7 → imW w t f g i = w g i := fun g i h1 h2 => by unfold imW; rw [mset_k h1, mset_k h2]
  intro x x0 hT
  rw [e0 0 0 (by decide) (by decide)] at hT
  obtain ⟨b1, b2, b3, b4, b5, b6⟩ := hb x x0 hT
  obtain ⟨c1, c2, c3, c4, c5, c6⟩ := hb t h0.1 h0.2
  have ec : clT (imW w t f) x = clT w x := by unfold clT; rw [e0 1 x (by decide) (by decide)]
  rw [e0 2 x (by decide) (by decide), e0 4 x (by decide) (by decide), e0 1 x (by decide) (by decide), ec]
  by_cases hx : x = t
  · subst hx
    have e6 : imW w x f 6 x = w 6 x + 1 := by unfold imW; rw [mset_s]
    rw [e6]
    refine ⟨b1, b2, by omega, fun j h1 h2 => ?_, b5, b6⟩
    unfold imW
    rw [mset_k (by decide)]
    by_cases hj : j = w 6 x
    · subst hj; rw [mset_s]; exact hf
    · rw [mset_i (by omega)]; exact b4 j h1 (by omega)
  · have e6 : imW w t f 6 x = w 6 x := by unfold imW; rw [mset_i hx, mset_k (by decide)]
    rw [e6]
    refine ⟨b1, b2, b3, fun j h1 h2 => ?_, b5, b6⟩
    unfold imW
    rw [mset_k (by decide), mset_i (by omega)]
    exact b4 j h1 h2
theorem rw0_BT {w : mW} (hb : mBT w) (h9 : 9 ≤ w 0 0) {t : Int} (h0 : 0 ≤ t) : mBT (mset (mset w 4 (w 0 0) t) 5 t (w 0 0)) := by
  intro x x0 hT
  rw [mset_k (show (0 : Nat) ≠ 5 by decide), mset_k (show (0 : Nat) ≠ 4 by decide)] at hT
  obtain ⟨b1, b2, b3, b4, b5, b6⟩ := hb x x0 hT
  have ec : clT (mset (mset w 4 (w 0 0) t) 5 t (w 0 0)) x = clT w x := by unfold clT; rw [mset_k (by decide), mset_k (by decide)]
  rw [ec]
  simp only [mset_k (show (2 : Nat) ≠ 5 by decide), mset_k (show (2 : Nat) ≠ 4 by decide), mset_k (show (6 : Nat) ≠ 5 by decide), mset_k (show (6 : Nat) ≠ 4 by decide), mset_k (show (7 : Nat) ≠ 5 by decide), mset_k (show (7 : Nat) ≠ 4 by decide), mset_k (show (4 : Nat) ≠ 5 by decide), mset_k (show (1 : Nat) ≠ 5 by decide), mset_k (show (1 : Nat) ≠ 4 by decide)]
  rw [mset_i (show x ≠ w 0 0 by omega)]
  exact ⟨b1, b2, b3, b4, b5, b6⟩
set_option maxRecDepth 100000 in
theorem k7_newType {l : Launch} {θ : zTh} {N : zMap} {am : Nat} {ar : Nat → Nat} {w : mW} (hD : mDis am ar) (hw : mWF w) (s : Int) (p : Int) (k : Int) (r_s : inR s) (r_p : inR p) (r_k : inR k) (hB : mB w) (hT : w 0 0 < 60) (hb : mBT (ntW w s p k)) : ZM θ l yX7_newType cX7_newType 5 (some .int) ⟨4, 0, 0, 94⟩ [.ref (am), .int (iI (s)), .int (iI (p)), .int (iI (k))] (mP θ am ar w N) (fun v Q => ∃ r w', v = some (.int (iI r)) ∧ Q = mP θ am ar w' N ∧ mWF w' ∧ inR r ∧ (r = w 0 0 ∧ sBase (ntW w s p k) w' (w 0 0 + 1))) := by
  refine z_start (own := RX7) (nm := "newType") pnX7 rfl rfl (Nat.le_of_ble_eq_true rfl) ?_
  intro κ hκ hκl C
  change Z κ (mP θ am ar w N) 0 0 0 [(0, .ref (am)), (1, .int (iI (s))), (2, .int (iI (p))), (3, .int (iI (k)))] []
  have hB' := hB; obtain ⟨hB1, hB2, hB3, hB4, hB5, hB6⟩ := hB'
  refine z_aload_n C 1 0 dX7_newType_0 rfl rfl ?_
  refine m_geti C hκ 4 0 (by decide) rfl q1995 rfl dX7_newType_1 rfl ?_
  refine z_istore (lv' := [(0, .ref (am)), (1, .int (iI (s))), (2, .int (iI (p))), (3, .int (iI (k))), (4, .int (iI (w 0 0)))]) C 6 [1, 2, 3, 4, 0] dX7_newType_4 (by decide) rfl rfl ?_
  refine z_aload_n C 7 0 dX7_newType_6 rfl rfl ?_
  refine z_dup C 8 dX7_newType_7 rfl rfl ?_
  refine m_geti C hκ 11 0 (by decide) rfl q1995 rfl dX7_newType_8 rfl ?_
  refine z_iconst C 12 dX7_newType_11 rfl ?_
  refine z_iadd C 13 dX7_newType_12 rfl ?_
  obtain ⟨w1, ew1⟩ : ∃ w9, mset w 0 (0) ((w 0 0) + (1)) = w9 := ⟨_, rfl⟩
  have hw1 : mWF w1 := ew1 ▸ hw.set ⟨by omega, by omega⟩ rfl
  refine m_puti (w' := w1) C hκ 16 0 (by decide) (by decide) rfl q1995 rfl rfl rfl rfl dX7_newType_13 rfl ew1 ?_
  refine z_aload_n C 17 0 dX7_newType_16 rfl rfl ?_
  refine m_geta C hκ 20 1 (by decide) rfl q1996 rfl dX7_newType_17 rfl ?_
  refine z_iload C 22 4 dX7_newType_20 rfl rfl ?_
  refine z_iload_n C 23 1 dX7_newType_22 rfl rfl ?_
  obtain ⟨w2, ew2⟩ : ∃ w9, mset w1 1 (w 0 0) (s) = w9 := ⟨_, rfl⟩
  have hw2 : mWF w2 := ew2 ▸ hw1.set r_s rfl
  refine m_iast (len := 60) (w' := w2) C hκ hD 24 1 (by decide) rfl rfl (by omega) (by omega) dX7_newType_23 rfl ew2 ?_
  refine z_aload_n C 25 0 dX7_newType_24 rfl rfl ?_
  refine m_geta C hκ 28 2 (by decide) rfl q1997 rfl dX7_newType_25 rfl ?_
  refine z_iload C 30 4 dX7_newType_28 rfl rfl ?_
  refine z_iload_n C 31 2 dX7_newType_30 rfl rfl ?_
  obtain ⟨w3, ew3⟩ : ∃ w9, mset w2 2 (w 0 0) (p) = w9 := ⟨_, rfl⟩
  have hw3 : mWF w3 := ew3 ▸ hw2.set r_p rfl
  refine m_iast (len := 60) (w' := w3) C hκ hD 32 2 (by decide) rfl rfl (by omega) (by omega) dX7_newType_31 rfl ew3 ?_
  refine z_aload_n C 33 0 dX7_newType_32 rfl rfl ?_
  refine m_geta C hκ 36 3 (by decide) rfl q1998 rfl dX7_newType_33 rfl ?_
  refine z_iload C 38 4 dX7_newType_36 rfl rfl ?_
  refine z_iload_n C 39 3 dX7_newType_38 rfl rfl ?_
  obtain ⟨w4, ew4⟩ : ∃ w9, mset w3 3 (w 0 0) (k) = w9 := ⟨_, rfl⟩
  have hw4 : mWF w4 := ew4 ▸ hw3.set r_k rfl
  refine m_iast (len := 60) (w' := w4) C hκ hD 40 3 (by decide) rfl rfl (by omega) (by omega) dX7_newType_39 rfl ew4 ?_
  have hN : w4 = ntW w s p k := by unfold ntW; subst ew1; subst ew2; subst ew3; subst ew4; rfl
  have hbN : mBT w4 := hN ▸ hb
  have hBN : mB w4 := by rw [hN]; unfold mB; rw [ntW_0, ntW_k (by decide) (by decide) (by decide) (by decide), ntW_k (by decide) (by decide) (by decide) (by decide)]; omega
  refine z_aload_n C 41 0 dX7_newType_40 rfl rfl ?_
  refine z_callV  (As := []) (rest := []) C hκ hκl 44 (k7_layOut hD hw4  hBN hbN) dX7_newType_41 q1975 q1977 qs34 q97 q1978 znX7_layOut (Nat.le_of_ble_eq_true rfl) (Nat.le_of_ble_eq_true rfl) (Nat.le_of_ble_eq_true rfl) (Nat.le_of_ble_eq_true rfl) mrec rfl rfl (Nat.le_of_ble_eq_true rfl) rfl (fun v9 Q9 h9 => ?_)
  obtain ⟨rfl, w5, rfl, hw5, hr1⟩ := h9
  refine z_as (st' := []) rfl rfl rfl ?_
  refine z_widen (n' := 0) (k' := 0) (Nat.le_refl _) (Nat.le_refl _) ?_
  refine z_iload C 46 4 dX7_newType_44 rfl rfl ?_
  exact z_iret C dX7_newType_46 rfl (Nat.le_of_ble_eq_true rfl) (Nat.le_of_ble_eq_true rfl) ⟨_, _, rfl, rfl, hw5, (hw.r _ _ rfl), ⟨rfl, by have e := hr1; rw [hN, ntW_0] at e; exact e⟩⟩
set_option maxRecDepth 100000 in
theorem k7_type {l : Launch} {θ : zTh} {N : zMap} {am : Nat} {ar : Nat → Nat} {w : mW} (hD : mDis am ar) (hw : mWF w) (p : Int) (k : Int) (a : Bool) (r_p : inR p) (r_k : inR k) (hB : mB w) (hb : mBT w) (hnw : mNew w) : ZM θ l yX7_type cX7_type 4 (some .int) ⟨5, 0, 0, 118⟩ [.ref (am), .int (iI (p)), .int (iI (k)), .int (iI (bI (a)))] (mP θ am ar w N) (fun v Q => ∃ r w', v = some (.int (iI r)) ∧ Q = mP θ am ar w' N ∧ mWF w' ∧ inR r ∧ tyR w p k a r w') := by
  refine z_start (own := RX7) (nm := "type") pnX7 rfl rfl (Nat.le_of_ble_eq_true rfl) ?_
  intro κ hκ hκl C
  change Z κ (mP θ am ar w N) 0 0 0 [(0, .ref (am)), (1, .int (iI (p))), (2, .int (iI (k))), (3, .int (iI (bI (a))))] []
  have hB' := hB; obtain ⟨hB1, hB2, hB3, hB4, hB5, hB6⟩ := hB'
  refine z_aload_n C 1 0 dX7_type_0 rfl rfl ?_
  refine z_iload_n C 2 1 dX7_type_1 rfl rfl ?_
  refine z_callVF (n' := 0) (k' := 0) (As := [.int (iI (p))]) (rest := []) C hκ hκl 5 (k7_isClass hD hw (p) r_p hB) dX7_type_2 q2156 q2158 qs39 q97 q2159 znX7_isClass (Nat.le_of_ble_eq_true rfl) (Nat.le_of_ble_eq_true rfl) (Nat.le_of_ble_eq_true rfl) (Nat.le_of_ble_eq_true rfl) mrec rfl rfl (Nat.le_of_ble_eq_true rfl) rfl rfl rfl ?_
  refine z_ifB_eq C 20 8 dX7_type_5 (by decide) rfl (fun c1 => ?_) (fun c1 => ?_)
  · skip
    have c1b : ¬ (0 ≤ (p) ∧ (p) < w 0 0 ∧ (w 1 (p) = 1 ∨ w 1 (p) = 2)) := of_decide_eq_false c1
    refine z_iconst C 21 dX7_type_20 rfl ?_
    exact z_iret C dX7_type_21 rfl (Nat.le_of_ble_eq_true rfl) (Nat.le_of_ble_eq_true rfl) ⟨_, _, rfl, rfl, hw, ⟨by decide, by decide⟩, (by clear C hκ hκl ; unfold tyR; first | (simp_all; done) | (simp_all <;> omega) | (simp_all <;> intros <;> omega))⟩
  · skip
    have c1b : (0 ≤ (p) ∧ (p) < w 0 0 ∧ (w 1 (p) = 1 ∨ w 1 (p) = 2)) := of_decide_eq_true c1
    refine z_iload_n C 9 2 dX7_type_8 rfl rfl ?_
    refine z_i2l C 10 dX7_type_9 r_k rfl ?_
    refine z_lconst (x := 0) C 11 dX7_type_10 rfl rfl ?_
    refine z_ldc2 (z := 3) C 14 dX7_type_11 q2167 (by decide) rfl ?_
    refine z_callSF (n' := 0) (k' := 0) (As := [.long (lI (k)), .long (lI (0)), .long (lI (3))]) (rest := []) C hκ hκl 17 (k7_in (k) (0) (3) (inR_L r_k) ⟨by decide, by decide⟩ ⟨by decide, by decide⟩) dX7_type_14 q2164 q2165 q97 q2166 znX7_in (Nat.le_of_ble_eq_true rfl) (Nat.le_of_ble_eq_true rfl) (Nat.le_of_ble_eq_true rfl) (Nat.le_of_ble_eq_true rfl) rfl (Nat.le_of_ble_eq_true rfl) rfl rfl rfl ?_
    refine z_ifB_ne C 22 20 dX7_type_17 (by decide) rfl (fun c2 => ?_) (fun c2 => ?_)
    · skip
      have c2b : (((0) ≤ (k) ∧ (k) ≤ (3))) := of_decide_eq_true c2
      refine z_aload_n C 23 0 dX7_type_22 rfl rfl ?_
      refine m_geti C hκ 26 0 (by decide) rfl q1995 rfl dX7_type_23 rfl ?_
      refine z_bipush C 28 dX7_type_26 (by decide) rfl ?_
      refine z_icmp_ne C 36 31 dX7_type_28 (by decide) (hw.r _ _ rfl) ⟨by decide, by decide⟩ rfl (fun c3 => ?_) (fun c3 => ?_)
      · skip
        obtain ⟨n6, n4, n5, n2⟩ := hnw (w 0 0) (by omega) (by omega)
        have n8 : 8 ≤ p := by have := (hb p (by omega) (by omega)).2.2.2.2.2.2.2; omega
        refine z_aload_n C 37 0 dX7_type_36 rfl rfl ?_
        refine z_iload_n C 38 3 dX7_type_37 rfl rfl ?_
        refine z_ifB_eq C 45 41 dX7_type_38 (by decide) rfl (fun c4 => ?_) (fun c4 => ?_)
        · skip
          refine z_iconst C 46 dX7_type_45 rfl ?_
          refine z_iload_n C 47 1 dX7_type_46 rfl rfl ?_
          refine z_iload_n C 48 2 dX7_type_47 rfl rfl ?_
          refine z_callV  (As := [.int (iI (1)), .int (iI (p)), .int (iI (k))]) (rest := []) C hκ hκl 51 (k7_newType hD hw (1) (p) (k) ⟨by decide, by decide⟩ r_p r_k hB (by omega) (ntW_BT ⟨by omega, by omega⟩ hb ⟨by omega, by omega⟩ ⟨by omega, by omega⟩ (fun _ => n8) n6 ⟨by omega, by omega⟩)) dX7_type_48 q2168 q2170 qs41 q97 q2171 znX7_newType (Nat.le_of_ble_eq_true rfl) (Nat.le_of_ble_eq_true rfl) (Nat.le_of_ble_eq_true rfl) (Nat.le_of_ble_eq_true rfl) mrec rfl rfl (Nat.le_of_ble_eq_true rfl) rfl (fun v9 Q9 h9 => ?_)
          obtain ⟨r6, w1, rfl, rfl, hw1, r_r6, hr5⟩ := h9
          refine z_as (st' := [.int (iI (r6))]) rfl rfl rfl ?_
          refine z_widen (n' := 0) (k' := 0) (Nat.le_refl _) (Nat.le_refl _) ?_
          exact z_iret C dX7_type_51 rfl (Nat.le_of_ble_eq_true rfl) (Nat.le_of_ble_eq_true rfl) ⟨_, _, rfl, rfl, hw1, r_r6, (by clear C hκ hκl ; unfold tyR; first | (simp_all; done) | (simp_all <;> omega) | (simp_all <;> intros <;> omega))⟩
        · skip
          refine z_iconst C 42 dX7_type_41 rfl ?_
          refine z_goto C 46 dX7_type_42 (by decide) ?_
          refine z_iload_n C 47 1 dX7_type_46 rfl rfl ?_
          refine z_iload_n C 48 2 dX7_type_47 rfl rfl ?_
          refine z_callV  (As := [.int (iI (2)), .int (iI (p)), .int (iI (k))]) (rest := []) C hκ hκl 51 (k7_newType hD hw (2) (p) (k) ⟨by decide, by decide⟩ r_p r_k hB (by omega) (ntW_BT ⟨by omega, by omega⟩ hb ⟨by omega, by omega⟩ ⟨by omega, by omega⟩ (fun _ => n8) n6 ⟨by omega, by omega⟩)) dX7_type_48 q2168 q2170 qs41 q97 q2171 znX7_newType (Nat.le_of_ble_eq_true rfl) (Nat.le_of_ble_eq_true rfl) (Nat.le_of_ble_eq_true rfl) (Nat.le_of_ble_eq_true rfl) mrec rfl rfl (Nat.le_of_ble_eq_true rfl) rfl (fun v9 Q9 h9 => ?_)
          obtain ⟨r8, w2, rfl, rfl, hw2, r_r8, hr7⟩ := h9
          refine z_as (st' := [.int (iI (r8))]) rfl rfl rfl ?_
          refine z_widen (n' := 0) (k' := 0) (Nat.le_refl _) (Nat.le_refl _) ?_
          exact z_iret C dX7_type_51 rfl (Nat.le_of_ble_eq_true rfl) (Nat.le_of_ble_eq_true rfl) ⟨_, _, rfl, rfl, hw2, r_r8, (by clear C hκ hκl ; unfold tyR; first | (simp_all; done) | (simp_all <;> omega) | (simp_all <;> intros <;> omega))⟩
      · skip
        refine z_bipush C 33 dX7_type_31 (by decide) rfl ?_
        refine z_goto C 51 dX7_type_33 (by decide) ?_
        exact z_iret C dX7_type_51 rfl (Nat.le_of_ble_eq_true rfl) (Nat.le_of_ble_eq_true rfl) ⟨_, _, rfl, rfl, hw, ⟨by decide, by decide⟩, (by clear C hκ hκl ; unfold tyR; first | (simp_all; done) | (simp_all <;> omega) | (simp_all <;> intros <;> omega))⟩
    · skip
      have c2b : ¬ (((0) ≤ (k) ∧ (k) ≤ (3))) := of_decide_eq_false c2
      refine z_iconst C 21 dX7_type_20 rfl ?_
      exact z_iret C dX7_type_21 rfl (Nat.le_of_ble_eq_true rfl) (Nat.le_of_ble_eq_true rfl) ⟨_, _, rfl, rfl, hw, ⟨by decide, by decide⟩, (by clear C hκ hκl ; unfold tyR; first | (simp_all; done) | (simp_all <;> omega) | (simp_all <;> intros <;> omega))⟩
set_option maxRecDepth 100000 in
theorem k7_face {l : Launch} {θ : zTh} {N : zMap} {am : Nat} {ar : Nat → Nat} {w : mW} (hD : mDis am ar) (hw : mWF w) (k : Int) (r_k : inR k) (hB : mB w) (hb : mBT w) (hnw : mNew w) : ZM θ l yX7_face cX7_face 2 (some .int) ⟨5, 0, 0, 118⟩ [.ref (am), .int (iI (k))] (mP θ am ar w N) (fun v Q => ∃ r w', v = some (.int (iI r)) ∧ Q = mP θ am ar w' N ∧ mWF w' ∧ inR r ∧ fcR w k r w') := by
  refine z_start (own := RX7) (nm := "face") pnX7 rfl rfl (Nat.le_of_ble_eq_true rfl) ?_
  intro κ hκ hκl C
  change Z κ (mP θ am ar w N) 0 0 0 [(0, .ref (am)), (1, .int (iI (k)))] []
  have hB' := hB; obtain ⟨hB1, hB2, hB3, hB4, hB5, hB6⟩ := hB'
  refine z_iload_n C 1 1 dX7_face_0 rfl rfl ?_
  refine z_i2l C 2 dX7_face_1 r_k rfl ?_
  refine z_lconst (x := 0) C 3 dX7_face_2 rfl rfl ?_
  refine z_ldc2 (z := 3) C 6 dX7_face_3 q2167 (by decide) rfl ?_
  refine z_callSF (n' := 0) (k' := 0) (As := [.long (lI (k)), .long (lI (0)), .long (lI (3))]) (rest := []) C hκ hκl 9 (k7_in (k) (0) (3) (inR_L r_k) ⟨by decide, by decide⟩ ⟨by decide, by decide⟩) dX7_face_6 q2164 q2165 q97 q2166 znX7_in (Nat.le_of_ble_eq_true rfl) (Nat.le_of_ble_eq_true rfl) (Nat.le_of_ble_eq_true rfl) (Nat.le_of_ble_eq_true rfl) rfl (Nat.le_of_ble_eq_true rfl) rfl rfl rfl ?_
  refine z_ifB_ne C 14 12 dX7_face_9 (by decide) rfl (fun c1 => ?_) (fun c1 => ?_)
  · skip
    have c1b : (((0) ≤ (k) ∧ (k) ≤ (3))) := of_decide_eq_true c1
    refine z_aload_n C 15 0 dX7_face_14 rfl rfl ?_
    refine m_geti C hκ 18 0 (by decide) rfl q1995 rfl dX7_face_15 rfl ?_
    refine z_bipush C 20 dX7_face_18 (by decide) rfl ?_
    refine z_icmp_ne C 28 23 dX7_face_20 (by decide) (hw.r _ _ rfl) ⟨by decide, by decide⟩ rfl (fun c2 => ?_) (fun c2 => ?_)
    · skip
      obtain ⟨n6, n4, n5, n2⟩ := hnw (w 0 0) (by omega) (by omega)
      refine z_aload_n C 29 0 dX7_face_28 rfl rfl ?_
      refine z_iconst C 30 dX7_face_29 rfl ?_
      refine z_iconst C 31 dX7_face_30 rfl ?_
      refine z_iload_n C 32 1 dX7_face_31 rfl rfl ?_
      refine z_callV  (As := [.int (iI (3)), .int (iI (-1)), .int (iI (k))]) (rest := []) C hκ hκl 35 (k7_newType hD hw (3) (-1) (k) ⟨by decide, by decide⟩ ⟨by decide, by decide⟩ r_k hB (by omega) (ntW_BT ⟨by omega, by omega⟩ hb ⟨by omega, by omega⟩ ⟨by omega, by omega⟩ (fun h => by omega) n6 ⟨by omega, by omega⟩)) dX7_face_32 q2168 q2170 qs41 q97 q2171 znX7_newType (Nat.le_of_ble_eq_true rfl) (Nat.le_of_ble_eq_true rfl) (Nat.le_of_ble_eq_true rfl) (Nat.le_of_ble_eq_true rfl) mrec rfl rfl (Nat.le_of_ble_eq_true rfl) rfl (fun v9 Q9 h9 => ?_)
      obtain ⟨r4, w1, rfl, rfl, hw1, r_r4, hr3⟩ := h9
      refine z_as (st' := [.int (iI (r4))]) rfl rfl rfl ?_
      refine z_widen (n' := 0) (k' := 0) (Nat.le_refl _) (Nat.le_refl _) ?_
      exact z_iret C dX7_face_35 rfl (Nat.le_of_ble_eq_true rfl) (Nat.le_of_ble_eq_true rfl) ⟨_, _, rfl, rfl, hw1, r_r4, (by clear C hκ hκl ; unfold fcR; first | (simp_all; done) | (simp_all <;> omega) | (simp_all <;> intros <;> omega))⟩
    · skip
      refine z_bipush C 25 dX7_face_23 (by decide) rfl ?_
      refine z_goto C 35 dX7_face_25 (by decide) ?_
      exact z_iret C dX7_face_35 rfl (Nat.le_of_ble_eq_true rfl) (Nat.le_of_ble_eq_true rfl) ⟨_, _, rfl, rfl, hw, ⟨by decide, by decide⟩, (by clear C hκ hκl ; unfold fcR; first | (simp_all; done) | (simp_all <;> omega) | (simp_all <;> intros <;> omega))⟩
  · skip
    have c1b : ¬ (((0) ≤ (k) ∧ (k) ≤ (3))) := of_decide_eq_false c1
    refine z_iconst C 13 dX7_face_12 rfl ?_
    exact z_iret C dX7_face_13 rfl (Nat.le_of_ble_eq_true rfl) (Nat.le_of_ble_eq_true rfl) ⟨_, _, rfl, rfl, hw, ⟨by decide, by decide⟩, (by clear C hκ hκl ; unfold fcR; first | (simp_all; done) | (simp_all <;> omega) | (simp_all <;> intros <;> omega))⟩
set_option maxRecDepth 100000 in
theorem k7_rows {l : Launch} {θ : zTh} {N : zMap} {am : Nat} {ar : Nat → Nat} {w : mW} (hD : mDis am ar) (hw : mWF w) (t : Int) (r_t : inR t) (hB : mB w) (hb : mBT w) (hnw : mNew w) : ZM θ l yX7_rows cX7_rows 2 (some .int) ⟨5, 0, 0, 118⟩ [.ref (am), .int (iI (t))] (mP θ am ar w N) (fun v Q => ∃ r w', v = some (.int (iI r)) ∧ Q = mP θ am ar w' N ∧ mWF w' ∧ inR r ∧ rwR w t r w') := by
  refine z_start (own := RX7) (nm := "rows") pnX7 rfl rfl (Nat.le_of_ble_eq_true rfl) ?_
  intro κ hκ hκl C
  change Z κ (mP θ am ar w N) 0 0 0 [(0, .ref (am)), (1, .int (iI (t)))] []
  have hB' := hB; obtain ⟨hB1, hB2, hB3, hB4, hB5, hB6⟩ := hB'
  refine z_aload_n C 1 0 dX7_rows_0 rfl rfl ?_
  refine z_iload_n C 2 1 dX7_rows_1 rfl rfl ?_
  refine z_callVF (n' := 0) (k' := 0) (As := [.int (iI (t))]) (rest := []) C hκ hκl 5 (k7_isType hD hw (t) r_t hB) dX7_rows_2 q2160 q2162 qs40 q97 q2163 znX7_isType (Nat.le_of_ble_eq_true rfl) (Nat.le_of_ble_eq_true rfl) (Nat.le_of_ble_eq_true rfl) (Nat.le_of_ble_eq_true rfl) mrec rfl rfl (Nat.le_of_ble_eq_true rfl) rfl rfl rfl ?_
  refine z_ifB_ne C 10 8 dX7_rows_5 (by decide) rfl (fun c1 => ?_) (fun c1 => ?_)
  · skip
    have c1b : (0 ≤ (t) ∧ (t) < w 0 0) := of_decide_eq_true c1
    refine z_aload_n C 11 0 dX7_rows_10 rfl rfl ?_
    refine m_geta C hκ 14 5 (by decide) rfl q2000 rfl dX7_rows_11 rfl ?_
    refine z_iload_n C 15 1 dX7_rows_14 rfl rfl ?_
    refine m_iald (len := 60) C hκ hD 16 5 (by decide) rfl rfl (by omega) (by omega) dX7_rows_15 rfl ?_
    refine z_iconst C 17 dX7_rows_16 rfl ?_
    refine z_icmp_eq C 27 20 dX7_rows_17 (by decide) (hw.r _ _ rfl) ⟨by decide, by decide⟩ rfl (fun c2 => ?_) (fun c2 => ?_)
    · skip
      refine z_aload_n C 28 0 dX7_rows_27 rfl rfl ?_
      refine m_geti C hκ 31 0 (by decide) rfl q1995 rfl dX7_rows_28 rfl ?_
      refine z_bipush C 33 dX7_rows_31 (by decide) rfl ?_
      refine z_icmp_ne C 39 36 dX7_rows_33 (by decide) (hw.r _ _ rfl) ⟨by decide, by decide⟩ rfl (fun c3 => ?_) (fun c3 => ?_)
      · skip
        obtain ⟨n6, n4, n5, n2⟩ := hnw (w 0 0) (by omega) (by omega)
        refine z_aload_n C 40 0 dX7_rows_39 rfl rfl ?_
        refine m_geta C hκ 43 4 (by decide) rfl q1999 rfl dX7_rows_40 rfl ?_
        refine z_aload_n C 44 0 dX7_rows_43 rfl rfl ?_
        refine m_geti C hκ 47 0 (by decide) rfl q1995 rfl dX7_rows_44 rfl ?_
        refine z_iload_n C 48 1 dX7_rows_47 rfl rfl ?_
        obtain ⟨w1, ew1⟩ : ∃ w9, mset w 4 (w 0 0) (t) = w9 := ⟨_, rfl⟩
        have hw1 : mWF w1 := ew1 ▸ hw.set r_t rfl
        refine m_iast (len := 60) (w' := w1) C hκ hD 49 4 (by decide) rfl rfl (by omega) (by omega) dX7_rows_48 rfl ew1 ?_
        have z0 : w1 0 0 = w 0 0 := by rw [← ew1]; exact mset_k (by decide)
        refine z_aload_n C 50 0 dX7_rows_49 rfl rfl ?_
        refine m_geta C hκ 53 5 (by decide) rfl q2000 rfl dX7_rows_50 rfl ?_
        refine z_iload_n C 54 1 dX7_rows_53 rfl rfl ?_
        refine z_aload_n C 55 0 dX7_rows_54 rfl rfl ?_
        refine m_geti C hκ 58 0 (by decide) rfl q1995 rfl dX7_rows_55 rfl ?_
        obtain ⟨w2, ew2⟩ : ∃ w9, mset w1 5 (t) (w1 0 0) = w9 := ⟨_, rfl⟩
        have hw2 : mWF w2 := ew2 ▸ hw1.set (hw1.r _ _ rfl) rfl
        refine m_iast (len := 60) (w' := w2) C hκ hD 59 5 (by decide) rfl rfl (by omega) (by omega) dX7_rows_58 rfl ew2 ?_
        have z1 : w2 = mset (mset w 4 (w 0 0) t) 5 t (w 0 0) := by rw [← ew2, ← ew1, mset_k (show (0 : Nat) ≠ 4 by decide)]
        have z2 : w2 0 0 = w 0 0 := by rw [z1, mset_k (by decide), mset_k (by decide)]
        have z3 : ∀ i : Int, w2 3 i = w 3 i := fun i => by rw [z1, mset_k (by decide), mset_k (by decide)]
        have z4 := rw0_BT hb hB1 c1b.1
        rw [← z1] at z4
        have z5 : mB w2 := by rw [z1]; unfold mB; simp only [mset_k (show (0 : Nat) ≠ 5 by decide), mset_k (show (0 : Nat) ≠ 4 by decide), mset_k (show (11 : Nat) ≠ 5 by decide), mset_k (show (11 : Nat) ≠ 4 by decide), mset_k (show (27 : Nat) ≠ 5 by decide), mset_k (show (27 : Nat) ≠ 4 by decide)]; omega
        have z6 : w2 6 (w2 0 0) = 0 := by rw [z2, z1, mset_k (by decide), mset_k (by decide)]; exact n6
        have z7 : w2 4 (w2 0 0) = t := by rw [z2, z1, mset_k (by decide), mset_s]
        refine z_aload_n C 60 0 dX7_rows_59 rfl rfl ?_
        refine z_iconst C 61 dX7_rows_60 rfl ?_
        refine z_bipush C 63 dX7_rows_61 (by decide) rfl ?_
        refine z_iload_n C 64 1 dX7_rows_63 rfl rfl ?_
        refine z_bipush C 66 dX7_rows_64 (by decide) rfl ?_
        refine z_icmp_ge C 73 69 dX7_rows_66 (by decide) r_t ⟨by decide, by decide⟩ rfl (fun c4 => ?_) (fun c4 => ?_)
        · skip
          refine z_aload_n C 74 0 dX7_rows_73 rfl rfl ?_
          refine m_geta C hκ 77 3 (by decide) rfl q1998 rfl dX7_rows_74 rfl ?_
          refine z_iload_n C 78 1 dX7_rows_77 rfl rfl ?_
          refine m_iald (len := 60) C hκ hD 79 3 (by decide) rfl rfl (by omega) (by omega) dX7_rows_78 rfl ?_
          refine z_callV  (As := [.int (iI (4)), .int (iI (8)), .int (iI (w2 3 (t)))]) (rest := []) C hκ hκl 82 (k7_newType hD hw2 (4) (8) (w2 3 (t)) ⟨by decide, by decide⟩ ⟨by decide, by decide⟩ (hw2.r _ _ rfl) z5 (by omega) (ntW_BT ⟨by omega, by omega⟩ z4 ⟨by omega, by omega⟩ ⟨by omega, by omega⟩ (fun h => by omega) z6 ⟨by omega, by omega⟩)) dX7_rows_79 q2168 q2170 qs41 q97 q2171 znX7_newType (Nat.le_of_ble_eq_true rfl) (Nat.le_of_ble_eq_true rfl) (Nat.le_of_ble_eq_true rfl) (Nat.le_of_ble_eq_true rfl) mrec rfl rfl (Nat.le_of_ble_eq_true rfl) rfl (fun v9 Q9 h9 => ?_)
          obtain ⟨r6, w3, rfl, rfl, hw3, r_r6, hr5⟩ := h9
          refine z_as (st' := [.int (iI (r6))]) rfl rfl rfl ?_
          refine z_widen (n' := 0) (k' := 0) (Nat.le_refl _) (Nat.le_refl _) ?_
          exact z_iret C dX7_rows_82 rfl (Nat.le_of_ble_eq_true rfl) (Nat.le_of_ble_eq_true rfl) ⟨_, _, rfl, rfl, hw3, r_r6, (by unfold rwR rwW; rw [if_neg (by simp_all), if_neg (by simp_all), if_neg (by omega)]; obtain ⟨e1, e2⟩ := hr5; rw [z2] at e1 e2; refine ⟨e1, ?_⟩; (first | rw [if_pos (by omega)] | rw [if_neg (by omega), ← z3]); rw [← z1]; exact e2)⟩
        · skip
          refine z_iconst C 70 dX7_rows_69 rfl ?_
          refine z_goto C 79 dX7_rows_70 (by decide) ?_
          refine z_callV  (As := [.int (iI (4)), .int (iI (8)), .int (iI (0))]) (rest := []) C hκ hκl 82 (k7_newType hD hw2 (4) (8) (0) ⟨by decide, by decide⟩ ⟨by decide, by decide⟩ ⟨by decide, by decide⟩ z5 (by omega) (ntW_BT ⟨by omega, by omega⟩ z4 ⟨by omega, by omega⟩ ⟨by omega, by omega⟩ (fun h => by omega) z6 ⟨by omega, by omega⟩)) dX7_rows_79 q2168 q2170 qs41 q97 q2171 znX7_newType (Nat.le_of_ble_eq_true rfl) (Nat.le_of_ble_eq_true rfl) (Nat.le_of_ble_eq_true rfl) (Nat.le_of_ble_eq_true rfl) mrec rfl rfl (Nat.le_of_ble_eq_true rfl) rfl (fun v9 Q9 h9 => ?_)
          obtain ⟨r8, w4, rfl, rfl, hw4, r_r8, hr7⟩ := h9
          refine z_as (st' := [.int (iI (r8))]) rfl rfl rfl ?_
          refine z_widen (n' := 0) (k' := 0) (Nat.le_refl _) (Nat.le_refl _) ?_
          exact z_iret C dX7_rows_82 rfl (Nat.le_of_ble_eq_true rfl) (Nat.le_of_ble_eq_true rfl) ⟨_, _, rfl, rfl, hw4, r_r8, (by unfold rwR rwW; rw [if_neg (by simp_all), if_neg (by simp_all), if_neg (by omega)]; obtain ⟨e1, e2⟩ := hr7; rw [z2] at e1 e2; refine ⟨e1, ?_⟩; (first | rw [if_pos (by omega)] | rw [if_neg (by omega), ← z3]); rw [← z1]; exact e2)⟩
      · skip
        refine z_bipush C 38 dX7_rows_36 (by decide) rfl ?_
        exact z_iret C dX7_rows_38 rfl (Nat.le_of_ble_eq_true rfl) (Nat.le_of_ble_eq_true rfl) ⟨_, _, rfl, rfl, hw, ⟨by decide, by decide⟩, (by clear C hκ hκl ; unfold rwR; first | (simp_all; done) | (simp_all <;> omega) | (simp_all <;> intros <;> omega))⟩
    · skip
      refine z_aload_n C 21 0 dX7_rows_20 rfl rfl ?_
      refine m_geta C hκ 24 5 (by decide) rfl q2000 rfl dX7_rows_21 rfl ?_
      refine z_iload_n C 25 1 dX7_rows_24 rfl rfl ?_
      refine m_iald (len := 60) C hκ hD 26 5 (by decide) rfl rfl (by omega) (by omega) dX7_rows_25 rfl ?_
      exact z_iret C dX7_rows_26 rfl (Nat.le_of_ble_eq_true rfl) (Nat.le_of_ble_eq_true rfl) ⟨_, _, rfl, rfl, hw, (hw.r _ _ rfl), (by clear C hκ hκl ; unfold rwR; first | (simp_all; done) | (simp_all <;> omega) | (simp_all <;> intros <;> omega))⟩
  · skip
    have c1b : ¬ (0 ≤ (t) ∧ (t) < w 0 0) := of_decide_eq_false c1
    refine z_iconst C 9 dX7_rows_8 rfl ?_
    exact z_iret C dX7_rows_9 rfl (Nat.le_of_ble_eq_true rfl) (Nat.le_of_ble_eq_true rfl) ⟨_, _, rfl, rfl, hw, ⟨by decide, by decide⟩, (by clear C hκ hκl ; unfold rwR; first | (simp_all; done) | (simp_all <;> omega) | (simp_all <;> intros <;> omega))⟩
set_option maxRecDepth 100000 in
theorem k7_implement {l : Launch} {θ : zTh} {N : zMap} {am : Nat} {ar : Nat → Nat} {w : mW} (hD : mDis am ar) (hw : mWF w) (t : Int) (f : Int) (r_t : inR t) (r_f : inR f) (hB : mB w) (hb : mBT w) : ZM θ l yX7_implement cX7_implement 5 (some .int) ⟨4, 0, 0, 94⟩ [.ref (am), .int (iI (t)), .int (iI (f))] (mP θ am ar w N) (fun v Q => ∃ r w', v = some (.int (iI r)) ∧ Q = mP θ am ar w' N ∧ mWF w' ∧ inR r ∧ imR w t f r w') := by
  refine z_start (own := RX7) (nm := "implement") pnX7 rfl rfl (Nat.le_of_ble_eq_true rfl) ?_
  intro κ hκ hκl C
  change Z κ (mP θ am ar w N) 0 0 0 [(0, .ref (am)), (1, .int (iI (t))), (2, .int (iI (f)))] []
  have hB' := hB; obtain ⟨hB1, hB2, hB3, hB4, hB5, hB6⟩ := hB'
  refine z_aload_n C 1 0 dX7_implement_0 rfl rfl ?_
  refine z_iload_n C 2 1 dX7_implement_1 rfl rfl ?_
  refine z_callVF (n' := 0) (k' := 0) (As := [.int (iI (t))]) (rest := []) C hκ hκl 5 (k7_declares hD hw (t) r_t hB) dX7_implement_2 q2184 q2186 qs42 q97 q2187 znX7_declares (Nat.le_of_ble_eq_true rfl) (Nat.le_of_ble_eq_true rfl) (Nat.le_of_ble_eq_true rfl) (Nat.le_of_ble_eq_true rfl) mrec rfl rfl (Nat.le_of_ble_eq_true rfl) rfl rfl rfl ?_
  refine z_ifB_eq C 31 8 dX7_implement_5 (by decide) rfl (fun c1 => ?_) (fun c1 => ?_)
  · skip
    have c1b : ¬ (0 ≤ (t) ∧ (t) < w 0 0 ∧ (t) ≠ 8 ∧ (w 1 (t) = 1 ∨ w 1 (t) = 2 ∨ w 1 (t) = 3)) := of_decide_eq_false c1
    refine z_iconst C 32 dX7_implement_31 rfl ?_
    exact z_iret C dX7_implement_32 rfl (Nat.le_of_ble_eq_true rfl) (Nat.le_of_ble_eq_true rfl) ⟨_, _, rfl, rfl, hw, ⟨by decide, by decide⟩, (by clear C hκ hκl ; unfold imR; first | (simp_all; done) | (simp_all <;> omega) | (simp_all <;> intros <;> omega))⟩
  · skip
    have c1b : (0 ≤ (t) ∧ (t) < w 0 0 ∧ (t) ≠ 8 ∧ (w 1 (t) = 1 ∨ w 1 (t) = 2 ∨ w 1 (t) = 3)) := of_decide_eq_true c1
    refine z_aload_n C 9 0 dX7_implement_8 rfl rfl ?_
    refine z_iload_n C 10 2 dX7_implement_9 rfl rfl ?_
    refine z_callVF (n' := 0) (k' := 0) (As := [.int (iI (f))]) (rest := []) C hκ hκl 13 (k7_isType hD hw (f) r_f hB) dX7_implement_10 q2160 q2162 qs40 q97 q2163 znX7_isType (Nat.le_of_ble_eq_true rfl) (Nat.le_of_ble_eq_true rfl) (Nat.le_of_ble_eq_true rfl) (Nat.le_of_ble_eq_true rfl) mrec rfl rfl (Nat.le_of_ble_eq_true rfl) rfl rfl rfl ?_
    refine z_ifB_eq C 31 16 dX7_implement_13 (by decide) rfl (fun c2 => ?_) (fun c2 => ?_)
    · skip
      have c2b : ¬ (0 ≤ (f) ∧ (f) < w 0 0) := of_decide_eq_false c2
      refine z_iconst C 32 dX7_implement_31 rfl ?_
      exact z_iret C dX7_implement_32 rfl (Nat.le_of_ble_eq_true rfl) (Nat.le_of_ble_eq_true rfl) ⟨_, _, rfl, rfl, hw, ⟨by decide, by decide⟩, (by clear C hκ hκl ; unfold imR; first | (simp_all; done) | (simp_all <;> omega) | (simp_all <;> intros <;> omega))⟩
    · skip
      have c2b : (0 ≤ (f) ∧ (f) < w 0 0) := of_decide_eq_true c2
      refine z_aload_n C 17 0 dX7_implement_16 rfl rfl ?_
      refine m_geta C hκ 20 1 (by decide) rfl q1996 rfl dX7_implement_17 rfl ?_
      refine z_iload_n C 21 2 dX7_implement_20 rfl rfl ?_
      refine m_iald (len := 60) C hκ hD 22 1 (by decide) rfl rfl (by omega) (by omega) dX7_implement_21 rfl ?_
      refine z_iconst C 23 dX7_implement_22 rfl ?_
      refine z_icmp_ne C 31 26 dX7_implement_23 (by decide) (hw.r _ _ rfl) ⟨by decide, by decide⟩ rfl (fun c3 => ?_) (fun c3 => ?_)
      · skip
        refine z_iconst C 32 dX7_implement_31 rfl ?_
        exact z_iret C dX7_implement_32 rfl (Nat.le_of_ble_eq_true rfl) (Nat.le_of_ble_eq_true rfl) ⟨_, _, rfl, rfl, hw, ⟨by decide, by decide⟩, (by clear C hκ hκl ; unfold imR; first | (simp_all; done) | (simp_all <;> omega) | (simp_all <;> intros <;> omega))⟩
      · skip
        refine z_iload_n C 27 2 dX7_implement_26 rfl rfl ?_
        refine z_iload_n C 28 1 dX7_implement_27 rfl rfl ?_
        refine z_icmp_lt C 33 31 dX7_implement_28 (by decide) r_f r_t rfl (fun c4 => ?_) (fun c4 => ?_)
        · skip
          refine z_aload_n C 34 0 dX7_implement_33 rfl rfl ?_
          refine m_geti C hκ 37 27 (by decide) rfl q2022 rfl dX7_implement_34 rfl ?_
          refine z_if_le C 44 40 dX7_implement_37 (by decide) (hw.r _ _ rfl) rfl (fun c5 => ?_) (fun c5 => ?_)
          · skip
            refine z_iconst C 45 dX7_implement_44 rfl ?_
            refine z_istore_n (lv' := [(0, .ref (am)), (1, .int (iI (t))), (2, .int (iI (f))), (3, .int (iI (0)))]) C 46 [1, 2, 3, 0] dX7_implement_45 (by decide) rfl rfl ?_
            refine z_iconst C 47 dX7_implement_46 rfl ?_
            refine z_istore (lv' := [(0, .ref (am)), (1, .int (iI (t))), (2, .int (iI (f))), (3, .int (iI (0))), (4, .int (iI (0)))]) C 49 [1, 2, 3, 4, 0] dX7_implement_47 (by decide) rfl rfl ?_
            have L49_6 : ∀ (fu : Nat) (j : Nat) (b : Bool) (hj : (j : Int) ≤ w 6 t) (hbj : b = (decide (0 < w 27 0) || anyN (fun j => decide (w 7 (3 * t + j) = f)) j)) (hd : 0 ≤ t ∧ t < w 0 0 ∧ dcB w t = true ∧ tyB w f = true ∧ w 1 f = 3 ∧ f < t ∧ 0 ≤ f) (hme : (w 6 t).toNat - j < fu), Z κ (mP θ am ar w N) 0 0 49 [(0, .ref (am)), (1, .int (iI (t))), (2, .int (iI (f))), (3, .int (iI (bI (b)))), (4, .int (iI ((j : Int))))] [] := by
              intro fu
              induction fu with
              | zero => intro j b hj hbj hd hme; exact absurd hme (Nat.not_lt_zero _)
              | succ fu ih7 =>
                intro j b hj hbj hd hme
                obtain ⟨g81, g82, g83, g84, g85, g86⟩ := hb (t) (by omega) (by omega)
                obtain ⟨g91, g92, g93, g94, g95, g96⟩ := hb (f) (by omega) (by omega)
                refine z_iload C 51 4 dX7_implement_49 rfl rfl ?_
                refine z_aload_n C 52 0 dX7_implement_51 rfl rfl ?_
                refine m_geta C hκ 55 6 (by decide) rfl q2001 rfl dX7_implement_52 rfl ?_
                refine z_iload_n C 56 1 dX7_implement_55 rfl rfl ?_
                refine m_iald (len := 60) C hκ hD 57 6 (by decide) rfl rfl (by omega) (by omega) dX7_implement_56 rfl ?_
                refine z_icmp_ge C 91 60 dX7_implement_57 (by decide) ⟨by omega, by omega⟩ (hw.r _ _ rfl) rfl (fun c10 => ?_) (fun c10 => ?_)
                · skip
                  have ej : j = (w 6 t).toNat := by omega
                  have hI : imN w t f = b := by unfold imN; rw [hbj, ej]
                  refine z_iload_n C 92 3 dX7_implement_91 rfl rfl ?_
                  refine z_ifB_eq C 98 95 dX7_implement_92 (by decide) rfl (fun c11 => ?_) (fun c11 => ?_)
                  · skip
                    refine z_aload_n C 99 0 dX7_implement_98 rfl rfl ?_
                    refine m_geta C hκ 102 6 (by decide) rfl q2001 rfl dX7_implement_99 rfl ?_
                    refine z_iload_n C 103 1 dX7_implement_102 rfl rfl ?_
                    refine m_iald (len := 60) C hκ hD 104 6 (by decide) rfl rfl (by omega) (by omega) dX7_implement_103 rfl ?_
                    refine z_iconst C 105 dX7_implement_104 rfl ?_
                    refine z_icmp_ne C 111 108 dX7_implement_105 (by decide) (hw.r _ _ rfl) ⟨by decide, by decide⟩ rfl (fun c12 => ?_) (fun c12 => ?_)
                    · skip
                      refine z_aload_n C 112 0 dX7_implement_111 rfl rfl ?_
                      refine m_geta C hκ 115 7 (by decide) rfl q2002 rfl dX7_implement_112 rfl ?_
                      refine z_iconst C 116 dX7_implement_115 rfl ?_
                      refine z_iload_n C 117 1 dX7_implement_116 rfl rfl ?_
                      refine z_imul C 118 dX7_implement_117 rfl ?_
                      refine z_aload_n C 119 0 dX7_implement_118 rfl rfl ?_
                      refine m_geta C hκ 122 6 (by decide) rfl q2001 rfl dX7_implement_119 rfl ?_
                      refine z_iload_n C 123 1 dX7_implement_122 rfl rfl ?_
                      refine m_iald (len := 60) C hκ hD 124 6 (by decide) rfl rfl (by omega) (by omega) dX7_implement_123 rfl ?_
                      refine z_iadd C 125 dX7_implement_124 rfl ?_
                      refine z_iload_n C 126 2 dX7_implement_125 rfl rfl ?_
                      obtain ⟨w1, ew1⟩ : ∃ w9, mset w 7 (((3) * (t)) + (w 6 (t))) (f) = w9 := ⟨_, rfl⟩
                      have hw1 : mWF w1 := ew1 ▸ hw.set r_f rfl
                      refine m_iast (len := 180) (w' := w1) C hκ hD 127 7 (by decide) rfl rfl (by omega) (by omega) dX7_implement_126 rfl ew1 ?_
                      have z1 : ∀ i : Int, w1 6 i = w 6 i := fun i => by rw [← ew1]; exact mset_k (by decide)
                      have z1t := z1 t
                      refine z_aload_n C 128 0 dX7_implement_127 rfl rfl ?_
                      refine m_geta C hκ 131 6 (by decide) rfl q2001 rfl dX7_implement_128 rfl ?_
                      refine z_iload_n C 132 1 dX7_implement_131 rfl rfl ?_
                      refine z_dup2 C 133 dX7_implement_132 rfl rfl rfl ?_
                      refine m_iald (len := 60) C hκ hD 134 6 (by decide) rfl rfl (by omega) (by omega) dX7_implement_133 rfl ?_
                      refine z_iconst C 135 dX7_implement_134 rfl ?_
                      refine z_iadd C 136 dX7_implement_135 rfl ?_
                      obtain ⟨w2, ew2⟩ : ∃ w9, mset w1 6 (t) ((w1 6 (t)) + (1)) = w9 := ⟨_, rfl⟩
                      have hw2 : mWF w2 := ew2 ▸ hw1.set ⟨by omega, by omega⟩ rfl
                      refine m_iast (len := 60) (w' := w2) C hκ hD 137 6 (by decide) rfl rfl (by omega) (by omega) dX7_implement_136 rfl ew2 ?_
                      have z2 : w2 = imW w t f := by unfold imW; rw [← ew2, ← ew1, mset_k (show (6 : Nat) ≠ 7 by decide)]
                      have z3 : mBT w2 := z2 ▸ imW_BT hb ⟨by omega, by omega⟩ ⟨(by have := (hb f (by omega) (by omega)).2.2.2.2.2.2.2; omega), by omega⟩ (by omega)
                      have z5 : ∀ (g : Nat) (i : Int), g ≠ 6 → g ≠ 7 → w2 g i = w g i := fun g i h1 h2 => by rw [z2]; unfold imW; rw [mset_k h1, mset_k h2]
                      have z4 : mB w2 := mB_of hB (z5 0 0 (by decide) (by decide)) (z5 11 0 (by decide) (by decide)) (z5 27 0 (by decide) (by decide))
                      refine z_aload_n C 138 0 dX7_implement_137 rfl rfl ?_
                      refine z_callV  (As := []) (rest := []) C hκ hκl 141 (k7_layOut hD hw2  z4 z3) dX7_implement_138 q1975 q1977 qs34 q97 q1978 znX7_layOut (Nat.le_of_ble_eq_true rfl) (Nat.le_of_ble_eq_true rfl) (Nat.le_of_ble_eq_true rfl) (Nat.le_of_ble_eq_true rfl) mrec rfl rfl (Nat.le_of_ble_eq_true rfl) rfl (fun v9 Q9 h9 => ?_)
                      obtain ⟨rfl, w3, rfl, hw3, hr13⟩ := h9
                      refine z_as (st' := []) rfl rfl rfl ?_
                      refine z_widen (n' := 0) (k' := 0) (Nat.le_refl _) (Nat.le_refl _) ?_
                      have e := hr13
                      rw [z2] at e
                      rw [show imW w t f 0 0 = w 0 0 by unfold imW; rw [mset_k (by decide), mset_k (by decide)]] at e
                      have e6 : w3 6 t = w 6 t + 1 := by rw [e.1 6 t (by decide) (by decide) (by decide)]; unfold imW; rw [mset_s]
                      refine z_aload_n C 142 0 dX7_implement_141 rfl rfl ?_
                      refine m_geta C hκ 145 6 (by decide) rfl q2001 rfl dX7_implement_142 rfl ?_
                      refine z_iload_n C 146 1 dX7_implement_145 rfl rfl ?_
                      refine m_iald (len := 60) C hκ hD 147 6 (by decide) rfl rfl (by omega) (by omega) dX7_implement_146 rfl ?_
                      exact z_iret C dX7_implement_147 rfl (Nat.le_of_ble_eq_true rfl) (Nat.le_of_ble_eq_true rfl) ⟨_, _, rfl, rfl, hw3, (hw3.r _ _ rfl), (by clear C hκ hκl; obtain ⟨d1, d2, d3, d4, d5, d6, d7⟩ := hd; unfold imR; rw [if_neg (by simp_all), if_neg (by rw [hI]; simp_all), if_neg (by omega)]; exact ⟨e6, e⟩)⟩
                    · skip
                      refine z_bipush C 110 dX7_implement_108 (by decide) rfl ?_
                      exact z_iret C dX7_implement_110 rfl (Nat.le_of_ble_eq_true rfl) (Nat.le_of_ble_eq_true rfl) ⟨_, _, rfl, rfl, hw, ⟨by decide, by decide⟩, (by clear C hκ hκl; obtain ⟨d1, d2, d3, d4, d5, d6, d7⟩ := hd; unfold imR; rw [if_neg (by simp_all), if_neg (by rw [hI]; simp_all), if_pos (by omega)]; exact ⟨rfl, rfl⟩)⟩
                  · skip
                    refine z_bipush C 97 dX7_implement_95 (by decide) rfl ?_
                    exact z_iret C dX7_implement_97 rfl (Nat.le_of_ble_eq_true rfl) (Nat.le_of_ble_eq_true rfl) ⟨_, _, rfl, rfl, hw, ⟨by decide, by decide⟩, (by clear C hκ hκl; obtain ⟨d1, d2, d3, d4, d5, d6, d7⟩ := hd; unfold imR; rw [if_neg (by simp_all), if_pos (by rw [hI]; simp_all)]; exact ⟨rfl, rfl⟩)⟩
                · skip
                  refine z_iload_n C 61 3 dX7_implement_60 rfl rfl ?_
                  refine z_ifB_ne C 79 64 dX7_implement_61 (by decide) rfl (fun c14 => ?_) (fun c14 => ?_)
                  · skip
                    refine z_iconst C 80 dX7_implement_79 rfl ?_
                    refine z_goto C 84 dX7_implement_80 (by decide) ?_
                    refine z_istore_n (lv' := [(0, .ref (am)), (1, .int (iI (t))), (2, .int (iI (f))), (3, .int (iI (1))), (4, .int (iI ((j : Int))))]) C 85 [1, 2, 3, 0, 4] dX7_implement_84 (by decide) rfl rfl ?_
                    refine z_iinc (lv' := [(0, .ref (am)), (1, .int (iI (t))), (2, .int (iI (f))), (3, .int (iI (1))), (4, .int (iI (((j : Int)) + 1)))]) C 88 4 [1, 2, 3, 4, 0] dX7_implement_85 rfl (by decide) rfl rfl ?_
                    refine z_goto C 49 dX7_implement_88 (by decide) ?_
                    refine z_as (lv' := [(0, .ref (am)), (1, .int (iI (t))), (2, .int (iI (f))), (3, .int (iI (bI ((true))))), (4, .int (iI (((j + 1) : Int))))]) rfl rfl rfl ?_
                    exact ih7 (j + 1) (true) (by omega) (by clear C hκ hκl ih7 hme g81 g82 g83 g84 g85 g86 g91 g92 g93 g94 g95 g96; first | (simp_all [anyN]; done) | (simp_all [anyN] <;> omega) | (grind [anyN]) | (simp [anyN] at * <;> omega)) hd (by omega)
                  · skip
                    refine z_aload_n C 65 0 dX7_implement_64 rfl rfl ?_
                    refine m_geta C hκ 68 7 (by decide) rfl q2002 rfl dX7_implement_65 rfl ?_
                    refine z_iconst C 69 dX7_implement_68 rfl ?_
                    refine z_iload_n C 70 1 dX7_implement_69 rfl rfl ?_
                    refine z_imul C 71 dX7_implement_70 rfl ?_
                    refine z_iload C 73 4 dX7_implement_71 rfl rfl ?_
                    refine z_iadd C 74 dX7_implement_73 rfl ?_
                    refine m_iald (len := 180) C hκ hD 75 7 (by decide) rfl rfl (by omega) (by omega) dX7_implement_74 rfl ?_
                    refine z_iload_n C 76 2 dX7_implement_75 rfl rfl ?_
                    refine z_icmp_ne C 83 79 dX7_implement_76 (by decide) (hw.r _ _ rfl) r_f rfl (fun c15 => ?_) (fun c15 => ?_)
                    · skip
                      refine z_iconst C 84 dX7_implement_83 rfl ?_
                      refine z_istore_n (lv' := [(0, .ref (am)), (1, .int (iI (t))), (2, .int (iI (f))), (3, .int (iI (0))), (4, .int (iI ((j : Int))))]) C 85 [1, 2, 3, 0, 4] dX7_implement_84 (by decide) rfl rfl ?_
                      refine z_iinc (lv' := [(0, .ref (am)), (1, .int (iI (t))), (2, .int (iI (f))), (3, .int (iI (0))), (4, .int (iI (((j : Int)) + 1)))]) C 88 4 [1, 2, 3, 4, 0] dX7_implement_85 rfl (by decide) rfl rfl ?_
                      refine z_goto C 49 dX7_implement_88 (by decide) ?_
                      refine z_as (lv' := [(0, .ref (am)), (1, .int (iI (t))), (2, .int (iI (f))), (3, .int (iI (bI ((false))))), (4, .int (iI (((j + 1) : Int))))]) rfl rfl rfl ?_
                      exact ih7 (j + 1) (false) (by omega) (by clear C hκ hκl ih7 hme g81 g82 g83 g84 g85 g86 g91 g92 g93 g94 g95 g96; first | (simp_all [anyN]; done) | (simp_all [anyN] <;> omega) | (grind [anyN]) | (simp [anyN] at * <;> omega)) hd (by omega)
                    · skip
                      refine z_iconst C 80 dX7_implement_79 rfl ?_
                      refine z_goto C 84 dX7_implement_80 (by decide) ?_
                      refine z_istore_n (lv' := [(0, .ref (am)), (1, .int (iI (t))), (2, .int (iI (f))), (3, .int (iI (1))), (4, .int (iI ((j : Int))))]) C 85 [1, 2, 3, 0, 4] dX7_implement_84 (by decide) rfl rfl ?_
                      refine z_iinc (lv' := [(0, .ref (am)), (1, .int (iI (t))), (2, .int (iI (f))), (3, .int (iI (1))), (4, .int (iI (((j : Int)) + 1)))]) C 88 4 [1, 2, 3, 4, 0] dX7_implement_85 rfl (by decide) rfl rfl ?_
                      refine z_goto C 49 dX7_implement_88 (by decide) ?_
                      refine z_as (lv' := [(0, .ref (am)), (1, .int (iI (t))), (2, .int (iI (f))), (3, .int (iI (bI ((true))))), (4, .int (iI (((j + 1) : Int))))]) rfl rfl rfl ?_
                      exact ih7 (j + 1) (true) (by omega) (by clear C hκ hκl ih7 hme g81 g82 g83 g84 g85 g86 g91 g92 g93 g94 g95 g96; first | (simp_all [anyN]; done) | (simp_all [anyN] <;> omega) | (grind [anyN]) | (simp [anyN] at * <;> omega)) hd (by omega)
            refine z_as (lv' := [(0, .ref (am)), (1, .int (iI (t))), (2, .int (iI (f))), (3, .int (iI (bI ((false))))), (4, .int (iI (((0) : Int))))]) rfl rfl rfl ?_
            exact L49_6 _ (0) (false) (by have := (hb t (by omega) (by omega)).2.2.1; omega) (by clear C hκ hκl L49_6; unfold anyN; first | (simp_all; done) | (simp_all <;> omega)) ⟨by omega, by omega, c1, c2, by omega, by omega, by omega⟩ (Nat.lt_succ_self _)
          · skip
            refine z_iconst C 41 dX7_implement_40 rfl ?_
            refine z_goto C 45 dX7_implement_41 (by decide) ?_
            refine z_istore_n (lv' := [(0, .ref (am)), (1, .int (iI (t))), (2, .int (iI (f))), (3, .int (iI (1)))]) C 46 [1, 2, 3, 0] dX7_implement_45 (by decide) rfl rfl ?_
            refine z_iconst C 47 dX7_implement_46 rfl ?_
            refine z_istore (lv' := [(0, .ref (am)), (1, .int (iI (t))), (2, .int (iI (f))), (3, .int (iI (1))), (4, .int (iI (0)))]) C 49 [1, 2, 3, 4, 0] dX7_implement_47 (by decide) rfl rfl ?_
            have L49_16 : ∀ (fu : Nat) (j : Nat) (b : Bool) (hj : (j : Int) ≤ w 6 t) (hbj : b = (decide (0 < w 27 0) || anyN (fun j => decide (w 7 (3 * t + j) = f)) j)) (hd : 0 ≤ t ∧ t < w 0 0 ∧ dcB w t = true ∧ tyB w f = true ∧ w 1 f = 3 ∧ f < t ∧ 0 ≤ f) (hme : (w 6 t).toNat - j < fu), Z κ (mP θ am ar w N) 0 0 49 [(0, .ref (am)), (1, .int (iI (t))), (2, .int (iI (f))), (3, .int (iI (bI (b)))), (4, .int (iI ((j : Int))))] [] := by
              intro fu
              induction fu with
              | zero => intro j b hj hbj hd hme; exact absurd hme (Nat.not_lt_zero _)
              | succ fu ih17 =>
                intro j b hj hbj hd hme
                obtain ⟨g181, g182, g183, g184, g185, g186⟩ := hb (t) (by omega) (by omega)
                obtain ⟨g191, g192, g193, g194, g195, g196⟩ := hb (f) (by omega) (by omega)
                refine z_iload C 51 4 dX7_implement_49 rfl rfl ?_
                refine z_aload_n C 52 0 dX7_implement_51 rfl rfl ?_
                refine m_geta C hκ 55 6 (by decide) rfl q2001 rfl dX7_implement_52 rfl ?_
                refine z_iload_n C 56 1 dX7_implement_55 rfl rfl ?_
                refine m_iald (len := 60) C hκ hD 57 6 (by decide) rfl rfl (by omega) (by omega) dX7_implement_56 rfl ?_
                refine z_icmp_ge C 91 60 dX7_implement_57 (by decide) ⟨by omega, by omega⟩ (hw.r _ _ rfl) rfl (fun c20 => ?_) (fun c20 => ?_)
                · skip
                  have ej : j = (w 6 t).toNat := by omega
                  have hI : imN w t f = b := by unfold imN; rw [hbj, ej]
                  refine z_iload_n C 92 3 dX7_implement_91 rfl rfl ?_
                  refine z_ifB_eq C 98 95 dX7_implement_92 (by decide) rfl (fun c21 => ?_) (fun c21 => ?_)
                  · skip
                    refine z_aload_n C 99 0 dX7_implement_98 rfl rfl ?_
                    refine m_geta C hκ 102 6 (by decide) rfl q2001 rfl dX7_implement_99 rfl ?_
                    refine z_iload_n C 103 1 dX7_implement_102 rfl rfl ?_
                    refine m_iald (len := 60) C hκ hD 104 6 (by decide) rfl rfl (by omega) (by omega) dX7_implement_103 rfl ?_
                    refine z_iconst C 105 dX7_implement_104 rfl ?_
                    refine z_icmp_ne C 111 108 dX7_implement_105 (by decide) (hw.r _ _ rfl) ⟨by decide, by decide⟩ rfl (fun c22 => ?_) (fun c22 => ?_)
                    · skip
                      refine z_aload_n C 112 0 dX7_implement_111 rfl rfl ?_
                      refine m_geta C hκ 115 7 (by decide) rfl q2002 rfl dX7_implement_112 rfl ?_
                      refine z_iconst C 116 dX7_implement_115 rfl ?_
                      refine z_iload_n C 117 1 dX7_implement_116 rfl rfl ?_
                      refine z_imul C 118 dX7_implement_117 rfl ?_
                      refine z_aload_n C 119 0 dX7_implement_118 rfl rfl ?_
                      refine m_geta C hκ 122 6 (by decide) rfl q2001 rfl dX7_implement_119 rfl ?_
                      refine z_iload_n C 123 1 dX7_implement_122 rfl rfl ?_
                      refine m_iald (len := 60) C hκ hD 124 6 (by decide) rfl rfl (by omega) (by omega) dX7_implement_123 rfl ?_
                      refine z_iadd C 125 dX7_implement_124 rfl ?_
                      refine z_iload_n C 126 2 dX7_implement_125 rfl rfl ?_
                      obtain ⟨w4, ew4⟩ : ∃ w9, mset w 7 (((3) * (t)) + (w 6 (t))) (f) = w9 := ⟨_, rfl⟩
                      have hw4 : mWF w4 := ew4 ▸ hw.set r_f rfl
                      refine m_iast (len := 180) (w' := w4) C hκ hD 127 7 (by decide) rfl rfl (by omega) (by omega) dX7_implement_126 rfl ew4 ?_
                      have z1 : ∀ i : Int, w4 6 i = w 6 i := fun i => by rw [← ew4]; exact mset_k (by decide)
                      have z1t := z1 t
                      refine z_aload_n C 128 0 dX7_implement_127 rfl rfl ?_
                      refine m_geta C hκ 131 6 (by decide) rfl q2001 rfl dX7_implement_128 rfl ?_
                      refine z_iload_n C 132 1 dX7_implement_131 rfl rfl ?_
                      refine z_dup2 C 133 dX7_implement_132 rfl rfl rfl ?_
                      refine m_iald (len := 60) C hκ hD 134 6 (by decide) rfl rfl (by omega) (by omega) dX7_implement_133 rfl ?_
                      refine z_iconst C 135 dX7_implement_134 rfl ?_
                      refine z_iadd C 136 dX7_implement_135 rfl ?_
                      obtain ⟨w5, ew5⟩ : ∃ w9, mset w4 6 (t) ((w4 6 (t)) + (1)) = w9 := ⟨_, rfl⟩
                      have hw5 : mWF w5 := ew5 ▸ hw4.set ⟨by omega, by omega⟩ rfl
                      refine m_iast (len := 60) (w' := w5) C hκ hD 137 6 (by decide) rfl rfl (by omega) (by omega) dX7_implement_136 rfl ew5 ?_
                      have z2 : w5 = imW w t f := by unfold imW; rw [← ew5, ← ew4, mset_k (show (6 : Nat) ≠ 7 by decide)]
                      have z3 : mBT w5 := z2 ▸ imW_BT hb ⟨by omega, by omega⟩ ⟨(by have := (hb f (by omega) (by omega)).2.2.2.2.2.2.2; omega), by omega⟩ (by omega)
                      have z5 : ∀ (g : Nat) (i : Int), g ≠ 6 → g ≠ 7 → w5 g i = w g i := fun g i h1 h2 => by rw [z2]; unfold imW; rw [mset_k h1, mset_k h2]
                      have z4 : mB w5 := mB_of hB (z5 0 0 (by decide) (by decide)) (z5 11 0 (by decide) (by decide)) (z5 27 0 (by decide) (by decide))
                      refine z_aload_n C 138 0 dX7_implement_137 rfl rfl ?_
                      refine z_callV  (As := []) (rest := []) C hκ hκl 141 (k7_layOut hD hw5  z4 z3) dX7_implement_138 q1975 q1977 qs34 q97 q1978 znX7_layOut (Nat.le_of_ble_eq_true rfl) (Nat.le_of_ble_eq_true rfl) (Nat.le_of_ble_eq_true rfl) (Nat.le_of_ble_eq_true rfl) mrec rfl rfl (Nat.le_of_ble_eq_true rfl) rfl (fun v9 Q9 h9 => ?_)
                      obtain ⟨rfl, w6, rfl, hw6, hr23⟩ := h9
                      refine z_as (st' := []) rfl rfl rfl ?_
                      refine z_widen (n' := 0) (k' := 0) (Nat.le_refl _) (Nat.le_refl _) ?_
                      have e := hr23
                      rw [z2] at e
                      rw [show imW w t f 0 0 = w 0 0 by unfold imW; rw [mset_k (by decide), mset_k (by decide)]] at e
                      have e6 : w6 6 t = w 6 t + 1 := by rw [e.1 6 t (by decide) (by decide) (by decide)]; unfold imW; rw [mset_s]
                      refine z_aload_n C 142 0 dX7_implement_141 rfl rfl ?_
                      refine m_geta C hκ 145 6 (by decide) rfl q2001 rfl dX7_implement_142 rfl ?_
                      refine z_iload_n C 146 1 dX7_implement_145 rfl rfl ?_
                      refine m_iald (len := 60) C hκ hD 147 6 (by decide) rfl rfl (by omega) (by omega) dX7_implement_146 rfl ?_
                      exact z_iret C dX7_implement_147 rfl (Nat.le_of_ble_eq_true rfl) (Nat.le_of_ble_eq_true rfl) ⟨_, _, rfl, rfl, hw6, (hw6.r _ _ rfl), (by clear C hκ hκl; obtain ⟨d1, d2, d3, d4, d5, d6, d7⟩ := hd; unfold imR; rw [if_neg (by simp_all), if_neg (by rw [hI]; simp_all), if_neg (by omega)]; exact ⟨e6, e⟩)⟩
                    · skip
                      refine z_bipush C 110 dX7_implement_108 (by decide) rfl ?_
                      exact z_iret C dX7_implement_110 rfl (Nat.le_of_ble_eq_true rfl) (Nat.le_of_ble_eq_true rfl) ⟨_, _, rfl, rfl, hw, ⟨by decide, by decide⟩, (by clear C hκ hκl; obtain ⟨d1, d2, d3, d4, d5, d6, d7⟩ := hd; unfold imR; rw [if_neg (by simp_all), if_neg (by rw [hI]; simp_all), if_pos (by omega)]; exact ⟨rfl, rfl⟩)⟩
                  · skip
                    refine z_bipush C 97 dX7_implement_95 (by decide) rfl ?_
                    exact z_iret C dX7_implement_97 rfl (Nat.le_of_ble_eq_true rfl) (Nat.le_of_ble_eq_true rfl) ⟨_, _, rfl, rfl, hw, ⟨by decide, by decide⟩, (by clear C hκ hκl; obtain ⟨d1, d2, d3, d4, d5, d6, d7⟩ := hd; unfold imR; rw [if_neg (by simp_all), if_pos (by rw [hI]; simp_all)]; exact ⟨rfl, rfl⟩)⟩
                · skip
                  refine z_iload_n C 61 3 dX7_implement_60 rfl rfl ?_
                  refine z_ifB_ne C 79 64 dX7_implement_61 (by decide) rfl (fun c24 => ?_) (fun c24 => ?_)
                  · skip
                    refine z_iconst C 80 dX7_implement_79 rfl ?_
                    refine z_goto C 84 dX7_implement_80 (by decide) ?_
                    refine z_istore_n (lv' := [(0, .ref (am)), (1, .int (iI (t))), (2, .int (iI (f))), (3, .int (iI (1))), (4, .int (iI ((j : Int))))]) C 85 [1, 2, 3, 0, 4] dX7_implement_84 (by decide) rfl rfl ?_
                    refine z_iinc (lv' := [(0, .ref (am)), (1, .int (iI (t))), (2, .int (iI (f))), (3, .int (iI (1))), (4, .int (iI (((j : Int)) + 1)))]) C 88 4 [1, 2, 3, 4, 0] dX7_implement_85 rfl (by decide) rfl rfl ?_
                    refine z_goto C 49 dX7_implement_88 (by decide) ?_
                    refine z_as (lv' := [(0, .ref (am)), (1, .int (iI (t))), (2, .int (iI (f))), (3, .int (iI (bI ((true))))), (4, .int (iI (((j + 1) : Int))))]) rfl rfl rfl ?_
                    exact ih17 (j + 1) (true) (by omega) (by clear C hκ hκl ih17 hme g181 g182 g183 g184 g185 g186 g191 g192 g193 g194 g195 g196; first | (simp_all [anyN]; done) | (simp_all [anyN] <;> omega) | (grind [anyN]) | (simp [anyN] at * <;> omega)) hd (by omega)
                  · skip
                    refine z_aload_n C 65 0 dX7_implement_64 rfl rfl ?_
                    refine m_geta C hκ 68 7 (by decide) rfl q2002 rfl dX7_implement_65 rfl ?_
                    refine z_iconst C 69 dX7_implement_68 rfl ?_
                    refine z_iload_n C 70 1 dX7_implement_69 rfl rfl ?_
                    refine z_imul C 71 dX7_implement_70 rfl ?_
                    refine z_iload C 73 4 dX7_implement_71 rfl rfl ?_
                    refine z_iadd C 74 dX7_implement_73 rfl ?_
                    refine m_iald (len := 180) C hκ hD 75 7 (by decide) rfl rfl (by omega) (by omega) dX7_implement_74 rfl ?_
                    refine z_iload_n C 76 2 dX7_implement_75 rfl rfl ?_
                    refine z_icmp_ne C 83 79 dX7_implement_76 (by decide) (hw.r _ _ rfl) r_f rfl (fun c25 => ?_) (fun c25 => ?_)
                    · skip
                      refine z_iconst C 84 dX7_implement_83 rfl ?_
                      refine z_istore_n (lv' := [(0, .ref (am)), (1, .int (iI (t))), (2, .int (iI (f))), (3, .int (iI (0))), (4, .int (iI ((j : Int))))]) C 85 [1, 2, 3, 0, 4] dX7_implement_84 (by decide) rfl rfl ?_
                      refine z_iinc (lv' := [(0, .ref (am)), (1, .int (iI (t))), (2, .int (iI (f))), (3, .int (iI (0))), (4, .int (iI (((j : Int)) + 1)))]) C 88 4 [1, 2, 3, 4, 0] dX7_implement_85 rfl (by decide) rfl rfl ?_
                      refine z_goto C 49 dX7_implement_88 (by decide) ?_
                      refine z_as (lv' := [(0, .ref (am)), (1, .int (iI (t))), (2, .int (iI (f))), (3, .int (iI (bI ((false))))), (4, .int (iI (((j + 1) : Int))))]) rfl rfl rfl ?_
                      exact ih17 (j + 1) (false) (by omega) (by clear C hκ hκl ih17 hme g181 g182 g183 g184 g185 g186 g191 g192 g193 g194 g195 g196; first | (simp_all [anyN]; done) | (simp_all [anyN] <;> omega) | (grind [anyN]) | (simp [anyN] at * <;> omega)) hd (by omega)
                    · skip
                      refine z_iconst C 80 dX7_implement_79 rfl ?_
                      refine z_goto C 84 dX7_implement_80 (by decide) ?_
                      refine z_istore_n (lv' := [(0, .ref (am)), (1, .int (iI (t))), (2, .int (iI (f))), (3, .int (iI (1))), (4, .int (iI ((j : Int))))]) C 85 [1, 2, 3, 0, 4] dX7_implement_84 (by decide) rfl rfl ?_
                      refine z_iinc (lv' := [(0, .ref (am)), (1, .int (iI (t))), (2, .int (iI (f))), (3, .int (iI (1))), (4, .int (iI (((j : Int)) + 1)))]) C 88 4 [1, 2, 3, 4, 0] dX7_implement_85 rfl (by decide) rfl rfl ?_
                      refine z_goto C 49 dX7_implement_88 (by decide) ?_
                      refine z_as (lv' := [(0, .ref (am)), (1, .int (iI (t))), (2, .int (iI (f))), (3, .int (iI (bI ((true))))), (4, .int (iI (((j + 1) : Int))))]) rfl rfl rfl ?_
                      exact ih17 (j + 1) (true) (by omega) (by clear C hκ hκl ih17 hme g181 g182 g183 g184 g185 g186 g191 g192 g193 g194 g195 g196; first | (simp_all [anyN]; done) | (simp_all [anyN] <;> omega) | (grind [anyN]) | (simp [anyN] at * <;> omega)) hd (by omega)
            refine z_as (lv' := [(0, .ref (am)), (1, .int (iI (t))), (2, .int (iI (f))), (3, .int (iI (bI ((true))))), (4, .int (iI (((0) : Int))))]) rfl rfl rfl ?_
            exact L49_16 _ (0) (true) (by have := (hb t (by omega) (by omega)).2.2.1; omega) (by clear C hκ hκl L49_16; unfold anyN; first | (simp_all; done) | (simp_all <;> omega)) ⟨by omega, by omega, c1, c2, by omega, by omega, by omega⟩ (Nat.lt_succ_self _)
        · skip
          refine z_iconst C 32 dX7_implement_31 rfl ?_
          exact z_iret C dX7_implement_32 rfl (Nat.le_of_ble_eq_true rfl) (Nat.le_of_ble_eq_true rfl) ⟨_, _, rfl, rfl, hw, ⟨by decide, by decide⟩, (by clear C hκ hκl ; unfold imR; first | (simp_all; done) | (simp_all <;> omega) | (simp_all <;> intros <;> omega))⟩
