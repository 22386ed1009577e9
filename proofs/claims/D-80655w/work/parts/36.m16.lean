/-! ===== the Model: a body told ===== -/
theorem sR_undo {w w1 : mW} {c : Prop} [Decidable c] {m n : Int} (h : sR (if c then mset w 25 m n else w) w1) : sR w (mset w1 25 m (w 25 m)) := by
  intro k i a
  by_cases e : k = 25 ∧ i = m
  · obtain ⟨rfl, rfl⟩ := e; rw [mset_s]
  · have h1 : mset w1 25 m (w 25 m) k i = w1 k i := by
      by_cases e2 : k = 25
      · subst e2; exact mset_i (fun h => e ⟨rfl, h⟩)
      · exact mset_k e2
    rw [h1, h k i a]
    split
    · by_cases e2 : k = 25
      · subst e2; exact mset_i (fun h => e ⟨rfl, h⟩)
      · exact mset_k e2
    · rfl
theorem bdC_r {w : mW} (hS : mS w) {m k x y : Int} (hm : 0 ≤ m ∧ m < w 11 0) (hb : bdB w m k x y = true) : -1 ≤ bdC w m k x y ∧ bdC w m k x y < w 0 0 := by
  have h9 := hS.B.1
  obtain ⟨m1, m2, m3, m4⟩ := hS.M hm.1 hm.2
  unfold bdC
  by_cases k1 : k = 1
  · rw [if_pos k1]; unfold bdB at hb; rw [if_neg (by omega), if_pos k1] at hb; have h := of_decide_eq_true hb; have := m4 x h.1 h.2; omega
  · rw [if_neg k1]
    by_cases k2 : k = 2
    · rw [if_pos k2]; unfold bdB at hb; rw [if_neg (by omega), if_neg k1, if_pos k2, Bool.and_eq_true] at hb; have h := of_decide_eq_true hb.1; have := (hS.M h.1 h.2.1).2.2.1; omega
    · rw [if_neg k2]
      by_cases k5 : k = 5
      · rw [if_pos k5]; unfold bdB at hb; rw [if_neg (by omega), if_neg k1, if_neg k2, if_neg (by omega), if_neg (by omega), if_pos k5] at hb; unfold mcF mcK at hb; simp only [Bool.and_eq_true] at hb; have h := of_decide_eq_true hb.1.1.1; have := (hS.M h.1 h.2.1).2.2.1; omega
      · rw [if_neg k5]
        by_cases k6 : k = 6
        · rw [if_pos k6]; unfold bdB at hb; rw [if_neg (by omega), if_neg k1, if_neg k2, if_neg (by omega), if_neg (by omega), if_neg k5, if_pos k6, Bool.and_eq_true] at hb
          have h1 := of_decide_eq_true hb.1; have h2 := of_decide_eq_true hb.2
          unfold suI; (repeat' split) <;> omega
        · rw [if_neg k6]
          by_cases k8 : k = 8
          · rw [if_pos k8]; unfold bdB at hb; rw [if_neg (by omega), if_neg k1, if_neg k2, if_neg (by omega), if_neg (by omega), if_neg k5, if_neg k6, if_neg (by omega)] at hb
            simp only [Bool.and_eq_true] at hb
            have h := of_decide_eq_true hb.1.1.1.1
            have := m4 x h.1 h.2
            have := (hS.T this.1 this.2).2.2.2.1
            omega
          · rw [if_neg k8]; omega
def boB (w : mW) (m k : Int) : Bool := mtB w m && !hasB w m 16 && decide (0 ≤ k ∧ k ≤ 8)
def boG (w : mW) (m k x y : Int) : Bool := bdB w m k x y && (decide (bdC w m k x y = -1) || decide (w 17 m = -1) || giB w (bdC w m k x y) (w 17 m))
def boI (w : mW) (m k x y : Int) : Int := if !boB w m k then -1 else if !boG w m k x y then -1 else if mb w 21 m then -2 else 1
def boV (w : mW) (m k x y : Int) : mW := mset (mset (mset (mset (if k = 7 then mset w 25 m (guN w m) else w) 21 m 1) 22 m k) 23 m x) 24 m y
def boW (w : mW) (m k x y : Int) : mW := if boB w m k && boG w m k x y && !mb w 21 m then boV w m k x y else w
theorem mb_R {w w' : mW} (h : sR w w') {k : Nat} (hk : k < 40) (i : Int) : mb w' k i = mb w k i := by unfold mb; rw [h k i (Or.inl hk)]

set_option maxRecDepth 100000 in
theorem k7_body {l : Launch} {θ : zTh} {N : zMap} {am : Nat} {ar : Nat → Nat} {w : mW} (hD : mDis am ar) (hw : mWF w) (m : Int) (k : Int) (x : Int) (y : Int) (r_m : inR m) (r_k : inR k) (r_x : inR x) (r_y : inR y) (hS : mS w) (h17 : ∀ m, 0 ≤ m → m < w 11 0 → w 16 m = 1 → 0 ≤ w 17 m) : ZM θ l yX7_body cX7_body 7 (some .int) ⟨5, 0, 0, 122⟩ [.ref (am), .int (iI (m)), .int (iI (k)), .int (iI (x)), .int (iI (y))] (mP θ am ar w N) (fun v Q => ∃ r w', v = some (.int (iI r)) ∧ Q = mP θ am ar w' N ∧ mWF w' ∧ inR r ∧ (r = boI w m k x y ∧ sR (boW w m k x y) w')) := by
  refine z_start (own := RX7) (nm := "body") pnX7 rfl rfl (Nat.le_of_ble_eq_true rfl) ?_
  intro κ hκ hκl C
  change Z κ (mP θ am ar w N) 0 0 0 [(0, .ref (am)), (1, .int (iI (m))), (2, .int (iI (k))), (3, .int (iI (x))), (4, .int (iI (y)))] []
  have hB := hS.B
  obtain ⟨hB1, hB2, hB3, hB4, hB5, hB6⟩ := hS.B
  have hC := hS.C
  refine z_aload_n C 1 0 dX7_body_0 rfl rfl ?_
  refine z_iload_n C 2 1 dX7_body_1 rfl rfl ?_
  refine z_callVF (n' := 0) (k' := 0) (As := [.int (iI (m))]) (rest := []) C hκ hκl 5 (k7_isMethod hD hw (m) r_m hB) dX7_body_2 q2304 q2306 qs59 q97 q2307 znX7_isMethod (Nat.le_of_ble_eq_true rfl) (Nat.le_of_ble_eq_true rfl) (Nat.le_of_ble_eq_true rfl) (Nat.le_of_ble_eq_true rfl) mrec rfl rfl (Nat.le_of_ble_eq_true rfl) rfl rfl rfl ?_
  refine z_ifB_eq C 30 8 dX7_body_5 (by decide) rfl (fun c1 => ?_) (fun c1 => ?_)
  · skip
    have c1b : ¬ (0 ≤ (m) ∧ (m) < w 11 0 ∧ w 16 (m) ≠ 1) := of_decide_eq_false c1
    refine z_iconst C 31 dX7_body_30 rfl ?_
    exact z_iret C dX7_body_31 rfl (Nat.le_of_ble_eq_true rfl) (Nat.le_of_ble_eq_true rfl) ⟨_, _, rfl, rfl, hw, ⟨by decide, by decide⟩, (by have hb9 : boB w m k = false := (by clear C hκ hκl; unfold boB; first | (simp_all; done) | grind); refine ⟨?_, ?_⟩; (unfold boI; rw [hb9]; rfl); (unfold boW; rw [hb9]; exact sR.refl))⟩
  · skip
    have c1b : (0 ≤ (m) ∧ (m) < w 11 0 ∧ w 16 (m) ≠ 1) := of_decide_eq_true c1
    refine z_aload_n C 9 0 dX7_body_8 rfl rfl ?_
    refine z_iload_n C 10 1 dX7_body_9 rfl rfl ?_
    refine z_bipush C 12 dX7_body_10 (by decide) rfl ?_
    refine z_callVF (n' := 0) (k' := 0) (As := [.int (iI (m)), .int (iI (16))]) (rest := []) C hκ hκl 15 (k7_has hD hw (m) (16) r_m ⟨by decide, by decide⟩ (by omega)) dX7_body_12 q2271 q2273 qs53 q97 q2274 znX7_has (Nat.le_of_ble_eq_true rfl) (Nat.le_of_ble_eq_true rfl) (Nat.le_of_ble_eq_true rfl) (Nat.le_of_ble_eq_true rfl) mrec rfl rfl (Nat.le_of_ble_eq_true rfl) rfl rfl rfl ?_
    refine z_ifB_ne C 30 18 dX7_body_15 (by decide) rfl (fun c2 => ?_) (fun c2 => ?_)
    · skip
      refine z_iconst C 31 dX7_body_30 rfl ?_
      exact z_iret C dX7_body_31 rfl (Nat.le_of_ble_eq_true rfl) (Nat.le_of_ble_eq_true rfl) ⟨_, _, rfl, rfl, hw, ⟨by decide, by decide⟩, (by have hb9 : boB w m k = false := (by clear C hκ hκl; unfold boB; first | (simp_all; done) | grind); refine ⟨?_, ?_⟩; (unfold boI; rw [hb9]; rfl); (unfold boW; rw [hb9]; exact sR.refl))⟩
    · skip
      refine z_iload_n C 19 2 dX7_body_18 rfl rfl ?_
      refine z_i2l C 20 dX7_body_19 r_k rfl ?_
      refine z_lconst (x := 0) C 21 dX7_body_20 rfl rfl ?_
      refine z_ldc2 (z := 8) C 24 dX7_body_21 q2381 (by decide) rfl ?_
      refine z_callSF (n' := 0) (k' := 0) (As := [.long (lI (k)), .long (lI (0)), .long (lI (8))]) (rest := []) C hκ hκl 27 (k7_in (k) (0) (8) (inR_L r_k) ⟨by decide, by decide⟩ ⟨by decide, by decide⟩) dX7_body_24 q2164 q2165 q97 q2166 znX7_in (Nat.le_of_ble_eq_true rfl) (Nat.le_of_ble_eq_true rfl) (Nat.le_of_ble_eq_true rfl) (Nat.le_of_ble_eq_true rfl) rfl (Nat.le_of_ble_eq_true rfl) rfl rfl rfl ?_
      refine z_ifB_ne C 32 30 dX7_body_27 (by decide) rfl (fun c3 => ?_) (fun c3 => ?_)
      · skip
        have c3b : (((0) ≤ (k) ∧ (k) ≤ (8))) := of_decide_eq_true c3
        refine z_aload_n C 33 0 dX7_body_32 rfl rfl ?_
        refine m_geta C hκ 36 25 (by decide) rfl q2020 rfl dX7_body_33 rfl ?_
        refine z_iload_n C 37 1 dX7_body_36 rfl rfl ?_
        refine m_iald (len := 100) C hκ hD 38 25 (by decide) rfl rfl (by omega) (by omega) dX7_body_37 rfl ?_
        refine z_istore (lv' := [(0, .ref (am)), (1, .int (iI (m))), (2, .int (iI (k))), (3, .int (iI (x))), (4, .int (iI (y))), (5, .int (iI (w 25 (m))))]) C 40 [1, 2, 3, 4, 5, 0] dX7_body_38 (by decide) rfl rfl ?_
        refine z_aload_n C 41 0 dX7_body_40 rfl rfl ?_
        refine z_iload_n C 42 1 dX7_body_41 rfl rfl ?_
        refine z_iload_n C 43 2 dX7_body_42 rfl rfl ?_
        refine z_iload_n C 44 3 dX7_body_43 rfl rfl ?_
        refine z_iload C 46 4 dX7_body_44 rfl rfl ?_
        refine z_callV  (As := [.int (iI (m)), .int (iI (k)), .int (iI (x)), .int (iI (y))]) (rest := []) C hκ hκl 49 (k7_mayBody hD hw (m) (k) (x) (y) r_m r_k r_x r_y hS (by omega) h17 (by omega)) dX7_body_46 q2493 q2495 qs75 q97 q2496 znX7_mayBody (Nat.le_of_ble_eq_true rfl) (Nat.le_of_ble_eq_true rfl) (Nat.le_of_ble_eq_true rfl) (Nat.le_of_ble_eq_true rfl) mrec rfl rfl (Nat.le_of_ble_eq_true rfl) rfl (fun v9 Q9 h9 => ?_)
        obtain ⟨b5, w1, rfl, rfl, hw1, hr4⟩ := h9
        refine z_as (st' := [.int (iI (bI (b5)))]) rfl rfl rfl ?_
        refine z_widen (n' := 0) (k' := 0) (Nat.le_refl _) (Nat.le_refl _) ?_
        obtain ⟨hr1, hr2, hr3⟩ := hr4
        have g : ∀ (k' : Nat) (i : Int), k' < 25 → w1 k' i = w k' i := fun k' i h => by rw [hr3 k' i (Or.inl (by omega))]; split; exact mset_k (by omega); rfl
        have g17 : w1 17 m = w 17 m := g 17 m (by decide)
        have g21 : mb w1 21 m = mb w 21 m := by unfold mb; rw [g 21 m (by decide)]
        have ggi : ∀ a b, giB w1 a b = giB w a b := fun a b => by unfold giB isa mb; rw [g 8 _ (by decide)]
        have hcr : bdB w m k x y = true → -1 ≤ bdC w m k x y ∧ bdC w m k x y < w 0 0 := bdC_r hS (by omega)
        have hm17 := (hS.M (m := m) (by omega) (by omega)).2.2.1
        have g18 : w1 25 m = w1 25 m := rfl
        refine z_istore (lv' := [(0, .ref (am)), (1, .int (iI (m))), (2, .int (iI (k))), (3, .int (iI (x))), (4, .int (iI (y))), (5, .int (iI (w 25 (m)))), (6, .int (iI (bI (b5))))]) C 51 [1, 2, 3, 4, 5, 6, 0] dX7_body_49 (by decide) rfl rfl ?_
        refine z_iload C 53 6 dX7_body_51 rfl rfl ?_
        refine z_ifB_eq C 95 56 dX7_body_53 (by decide) rfl (fun c6 => ?_) (fun c6 => ?_)
        · skip
          refine z_iconst C 96 dX7_body_95 rfl ?_
          refine z_istore (lv' := [(0, .ref (am)), (1, .int (iI (m))), (2, .int (iI (k))), (3, .int (iI (x))), (4, .int (iI (y))), (5, .int (iI (w 25 (m)))), (6, .int (iI (0)))]) C 98 [1, 2, 3, 4, 5, 6, 0] dX7_body_96 (by decide) rfl rfl ?_
          refine z_iload C 100 6 dX7_body_98 rfl rfl ?_
          refine z_if_eq C 112 103 dX7_body_100 (by decide) ⟨by decide, by decide⟩ rfl (fun c7 => ?_) (fun c7 => absurd c7 (by decide))
          refine z_aload_n C 113 0 dX7_body_112 rfl rfl ?_
          refine m_geta C hκ 116 25 (by decide) rfl q2020 rfl dX7_body_113 rfl ?_
          refine z_iload_n C 117 1 dX7_body_116 rfl rfl ?_
          refine z_iload C 119 5 dX7_body_117 rfl rfl ?_
          obtain ⟨w2, ew2⟩ : ∃ wz, mset w1 25 (m) (w 25 (m)) = wz := ⟨_, rfl⟩
          have hw2 : mWF w2 := ew2 ▸ hw1.set (hw.r _ _ rfl) rfl
          refine m_iast (len := 100) (w' := w2) C hκ hD 120 25 (by decide) rfl rfl (by omega) (by omega) dX7_body_119 rfl ew2 ?_
          refine z_iload C 122 6 dX7_body_120 rfl rfl ?_
          refine z_if_eq C 130 125 dX7_body_122 (by decide) ⟨by decide, by decide⟩ rfl (fun c8 => ?_) (fun c8 => absurd c8 (by decide))
          refine z_iconst C 131 dX7_body_130 rfl ?_
          exact z_iret C dX7_body_131 rfl (Nat.le_of_ble_eq_true rfl) (Nat.le_of_ble_eq_true rfl) ⟨_, _, rfl, rfl, hw2, ⟨by decide, by decide⟩, (by have hb9 : boB w m k = true := (by clear C hκ hκl; unfold boB; simp_all <;> omega); have hg9 : boG w m k x y = false := (by clear C hκ hκl; unfold boG; first | (simp_all; done) | grind); refine ⟨?_, ?_⟩; (unfold boI; rw [hb9, hg9]; rfl); (unfold boW; rw [hb9, hg9, if_neg (by simp), ← ew2]; exact sR_undo hr3))⟩
        · skip
          refine z_aload_n C 57 0 dX7_body_56 rfl rfl ?_
          refine m_geti C hκ 60 44 (by decide) rfl q2039 rfl dX7_body_57 rfl ?_
          refine z_iconst C 61 dX7_body_60 rfl ?_
          refine z_icmp_eq C 91 64 dX7_body_61 (by decide) (hw1.r _ _ rfl) ⟨by decide, by decide⟩ rfl (fun c9 => ?_) (fun c9 => ?_)
          · skip
            refine z_iconst C 92 dX7_body_91 rfl ?_
            refine z_goto C 96 dX7_body_92 (by decide) ?_
            refine z_istore (lv' := [(0, .ref (am)), (1, .int (iI (m))), (2, .int (iI (k))), (3, .int (iI (x))), (4, .int (iI (y))), (5, .int (iI (w 25 (m)))), (6, .int (iI (1)))]) C 98 [1, 2, 3, 4, 5, 6, 0] dX7_body_96 (by decide) rfl rfl ?_
            refine z_iload C 100 6 dX7_body_98 rfl rfl ?_
            refine z_if_eq C 112 103 dX7_body_100 (by decide) ⟨by decide, by decide⟩ rfl (fun c10 => absurd c10 (by decide)) (fun c10 => ?_)
            refine z_aload_n C 104 0 dX7_body_103 rfl rfl ?_
            refine m_geta C hκ 107 21 (by decide) rfl q2016 rfl dX7_body_104 rfl ?_
            refine z_iload_n C 108 1 dX7_body_107 rfl rfl ?_
            refine m_bald (len := 100) C hκ hD hw1 109 21 (by decide) rfl rfl rfl (by omega) (by omega) dX7_body_108 rfl ?_
            refine z_ifB_eq C 132 112 dX7_body_109 (by decide) rfl (fun c11 => ?_) (fun c11 => ?_)
            · skip
              have c11b : ¬ (w1 21 (m) = 1) := of_decide_eq_false c11
              refine z_aload_n C 133 0 dX7_body_132 rfl rfl ?_
              refine m_geta C hκ 136 21 (by decide) rfl q2016 rfl dX7_body_133 rfl ?_
              refine z_iload_n C 137 1 dX7_body_136 rfl rfl ?_
              refine z_iconst C 138 dX7_body_137 rfl ?_
              obtain ⟨w3, ew3⟩ : ∃ wz, mset w1 21 (m) (1) = wz := ⟨_, rfl⟩
              have hw3 : mWF w3 := ew3 ▸ hw1.setB (Or.inr rfl)
              refine m_bast (len := 100) (w' := w3) C hκ hD 139 21 (by decide) rfl rfl (by omega) (by omega) (Or.inr rfl) dX7_body_138 rfl ew3 ?_
              refine z_aload_n C 140 0 dX7_body_139 rfl rfl ?_
              refine m_geta C hκ 143 22 (by decide) rfl q2017 rfl dX7_body_140 rfl ?_
              refine z_iload_n C 144 1 dX7_body_143 rfl rfl ?_
              refine z_iload_n C 145 2 dX7_body_144 rfl rfl ?_
              obtain ⟨w4, ew4⟩ : ∃ wz, mset w3 22 (m) (k) = wz := ⟨_, rfl⟩
              have hw4 : mWF w4 := ew4 ▸ hw3.set r_k rfl
              refine m_iast (len := 100) (w' := w4) C hκ hD 146 22 (by decide) rfl rfl (by omega) (by omega) dX7_body_145 rfl ew4 ?_
              refine z_aload_n C 147 0 dX7_body_146 rfl rfl ?_
              refine m_geta C hκ 150 23 (by decide) rfl q2018 rfl dX7_body_147 rfl ?_
              refine z_iload_n C 151 1 dX7_body_150 rfl rfl ?_
              refine z_iload_n C 152 3 dX7_body_151 rfl rfl ?_
              obtain ⟨w5, ew5⟩ : ∃ wz, mset w4 23 (m) (x) = wz := ⟨_, rfl⟩
              have hw5 : mWF w5 := ew5 ▸ hw4.set r_x rfl
              refine m_iast (len := 100) (w' := w5) C hκ hD 153 23 (by decide) rfl rfl (by omega) (by omega) dX7_body_152 rfl ew5 ?_
              refine z_aload_n C 154 0 dX7_body_153 rfl rfl ?_
              refine m_geta C hκ 157 24 (by decide) rfl q2019 rfl dX7_body_154 rfl ?_
              refine z_iload_n C 158 1 dX7_body_157 rfl rfl ?_
              refine z_iload C 160 4 dX7_body_158 rfl rfl ?_
              obtain ⟨w6, ew6⟩ : ∃ wz, mset w5 24 (m) (y) = wz := ⟨_, rfl⟩
              have hw6 : mWF w6 := ew6 ▸ hw5.set r_y rfl
              refine m_iast (len := 100) (w' := w6) C hκ hD 161 24 (by decide) rfl rfl (by omega) (by omega) dX7_body_160 rfl ew6 ?_
              refine z_iconst C 162 dX7_body_161 rfl ?_
              exact z_iret C dX7_body_162 rfl (Nat.le_of_ble_eq_true rfl) (Nat.le_of_ble_eq_true rfl) ⟨_, _, rfl, rfl, hw6, ⟨by decide, by decide⟩, (by have hb9 : boB w m k = true := (by clear C hκ hκl; unfold boB; simp_all <;> omega); have hg9 : boG w m k x y = true := (by clear C hκ hκl; unfold boG; first | (simp_all; done) | grind); have h21 : mb w 21 m = false := (by rw [← g21]; first | assumption | simp_all); have hb1 : bdB w m k x y = true := (by unfold boG at hg9; simp at hg9; exact hg9.1); refine ⟨?_, ?_⟩; (unfold boI; rw [hb9, hg9, h21]; rfl); (unfold boW; rw [hb9, hg9, h21, if_pos (by decide)]; unfold boV; rw [← ew6, ← ew5, ← ew4, ← ew3]; refine (((sR.both ?_).both).both).both; rw [hr1, hb1] at hr3; simpa using hr3))⟩
            · skip
              have c11b : (w1 21 (m) = 1) := of_decide_eq_true c11
              refine z_aload_n C 113 0 dX7_body_112 rfl rfl ?_
              refine m_geta C hκ 116 25 (by decide) rfl q2020 rfl dX7_body_113 rfl ?_
              refine z_iload_n C 117 1 dX7_body_116 rfl rfl ?_
              refine z_iload C 119 5 dX7_body_117 rfl rfl ?_
              obtain ⟨w7, ew7⟩ : ∃ wz, mset w1 25 (m) (w 25 (m)) = wz := ⟨_, rfl⟩
              have hw7 : mWF w7 := ew7 ▸ hw1.set (hw.r _ _ rfl) rfl
              refine m_iast (len := 100) (w' := w7) C hκ hD 120 25 (by decide) rfl rfl (by omega) (by omega) dX7_body_119 rfl ew7 ?_
              refine z_iload C 122 6 dX7_body_120 rfl rfl ?_
              refine z_if_eq C 130 125 dX7_body_122 (by decide) ⟨by decide, by decide⟩ rfl (fun c12 => absurd c12 (by decide)) (fun c12 => ?_)
              refine z_bipush C 127 dX7_body_125 (by decide) rfl ?_
              refine z_goto C 131 dX7_body_127 (by decide) ?_
              exact z_iret C dX7_body_131 rfl (Nat.le_of_ble_eq_true rfl) (Nat.le_of_ble_eq_true rfl) ⟨_, _, rfl, rfl, hw7, ⟨by decide, by decide⟩, (by have hb9 : boB w m k = true := (by clear C hκ hκl; unfold boB; simp_all <;> omega); have hg9 : boG w m k x y = true := (by clear C hκ hκl; unfold boG; first | (simp_all; done) | grind); have h21 : mb w 21 m = true := (by rw [← g21]; first | assumption | simp_all); refine ⟨?_, ?_⟩; (unfold boI; rw [hb9, hg9, h21]; rfl); (unfold boW; rw [hb9, hg9, h21, if_neg (by decide), ← ew7]; exact sR_undo hr3))⟩
          · skip
            refine z_aload_n C 65 0 dX7_body_64 rfl rfl ?_
            refine m_geta C hκ 68 17 (by decide) rfl q2012 rfl dX7_body_65 rfl ?_
            refine z_iload_n C 69 1 dX7_body_68 rfl rfl ?_
            refine m_iald (len := 100) C hκ hD 70 17 (by decide) rfl rfl (by omega) (by omega) dX7_body_69 rfl ?_
            refine z_iconst C 71 dX7_body_70 rfl ?_
            refine z_icmp_eq C 91 74 dX7_body_71 (by decide) (hw1.r _ _ rfl) ⟨by decide, by decide⟩ rfl (fun c13 => ?_) (fun c13 => ?_)
            · skip
              refine z_iconst C 92 dX7_body_91 rfl ?_
              refine z_goto C 96 dX7_body_92 (by decide) ?_
              refine z_istore (lv' := [(0, .ref (am)), (1, .int (iI (m))), (2, .int (iI (k))), (3, .int (iI (x))), (4, .int (iI (y))), (5, .int (iI (w 25 (m)))), (6, .int (iI (1)))]) C 98 [1, 2, 3, 4, 5, 6, 0] dX7_body_96 (by decide) rfl rfl ?_
              refine z_iload C 100 6 dX7_body_98 rfl rfl ?_
              refine z_if_eq C 112 103 dX7_body_100 (by decide) ⟨by decide, by decide⟩ rfl (fun c14 => absurd c14 (by decide)) (fun c14 => ?_)
              refine z_aload_n C 104 0 dX7_body_103 rfl rfl ?_
              refine m_geta C hκ 107 21 (by decide) rfl q2016 rfl dX7_body_104 rfl ?_
              refine z_iload_n C 108 1 dX7_body_107 rfl rfl ?_
              refine m_bald (len := 100) C hκ hD hw1 109 21 (by decide) rfl rfl rfl (by omega) (by omega) dX7_body_108 rfl ?_
              refine z_ifB_eq C 132 112 dX7_body_109 (by decide) rfl (fun c15 => ?_) (fun c15 => ?_)
              · skip
                have c15b : ¬ (w1 21 (m) = 1) := of_decide_eq_false c15
                refine z_aload_n C 133 0 dX7_body_132 rfl rfl ?_
                refine m_geta C hκ 136 21 (by decide) rfl q2016 rfl dX7_body_133 rfl ?_
                refine z_iload_n C 137 1 dX7_body_136 rfl rfl ?_
                refine z_iconst C 138 dX7_body_137 rfl ?_
                obtain ⟨w8, ew8⟩ : ∃ wz, mset w1 21 (m) (1) = wz := ⟨_, rfl⟩
                have hw8 : mWF w8 := ew8 ▸ hw1.setB (Or.inr rfl)
                refine m_bast (len := 100) (w' := w8) C hκ hD 139 21 (by decide) rfl rfl (by omega) (by omega) (Or.inr rfl) dX7_body_138 rfl ew8 ?_
                refine z_aload_n C 140 0 dX7_body_139 rfl rfl ?_
                refine m_geta C hκ 143 22 (by decide) rfl q2017 rfl dX7_body_140 rfl ?_
                refine z_iload_n C 144 1 dX7_body_143 rfl rfl ?_
                refine z_iload_n C 145 2 dX7_body_144 rfl rfl ?_
                obtain ⟨w9, ew9⟩ : ∃ wz, mset w8 22 (m) (k) = wz := ⟨_, rfl⟩
                have hw9 : mWF w9 := ew9 ▸ hw8.set r_k rfl
                refine m_iast (len := 100) (w' := w9) C hκ hD 146 22 (by decide) rfl rfl (by omega) (by omega) dX7_body_145 rfl ew9 ?_
                refine z_aload_n C 147 0 dX7_body_146 rfl rfl ?_
                refine m_geta C hκ 150 23 (by decide) rfl q2018 rfl dX7_body_147 rfl ?_
                refine z_iload_n C 151 1 dX7_body_150 rfl rfl ?_
                refine z_iload_n C 152 3 dX7_body_151 rfl rfl ?_
                obtain ⟨w10, ew10⟩ : ∃ wz, mset w9 23 (m) (x) = wz := ⟨_, rfl⟩
                have hw10 : mWF w10 := ew10 ▸ hw9.set r_x rfl
                refine m_iast (len := 100) (w' := w10) C hκ hD 153 23 (by decide) rfl rfl (by omega) (by omega) dX7_body_152 rfl ew10 ?_
                refine z_aload_n C 154 0 dX7_body_153 rfl rfl ?_
                refine m_geta C hκ 157 24 (by decide) rfl q2019 rfl dX7_body_154 rfl ?_
                refine z_iload_n C 158 1 dX7_body_157 rfl rfl ?_
                refine z_iload C 160 4 dX7_body_158 rfl rfl ?_
                obtain ⟨w11, ew11⟩ : ∃ wz, mset w10 24 (m) (y) = wz := ⟨_, rfl⟩
                have hw11 : mWF w11 := ew11 ▸ hw10.set r_y rfl
                refine m_iast (len := 100) (w' := w11) C hκ hD 161 24 (by decide) rfl rfl (by omega) (by omega) dX7_body_160 rfl ew11 ?_
                refine z_iconst C 162 dX7_body_161 rfl ?_
                exact z_iret C dX7_body_162 rfl (Nat.le_of_ble_eq_true rfl) (Nat.le_of_ble_eq_true rfl) ⟨_, _, rfl, rfl, hw11, ⟨by decide, by decide⟩, (by have hb9 : boB w m k = true := (by clear C hκ hκl; unfold boB; simp_all <;> omega); have hg9 : boG w m k x y = true := (by clear C hκ hκl; unfold boG; first | (simp_all; done) | grind); have h21 : mb w 21 m = false := (by rw [← g21]; first | assumption | simp_all); have hb1 : bdB w m k x y = true := (by unfold boG at hg9; simp at hg9; exact hg9.1); refine ⟨?_, ?_⟩; (unfold boI; rw [hb9, hg9, h21]; rfl); (unfold boW; rw [hb9, hg9, h21, if_pos (by decide)]; unfold boV; rw [← ew11, ← ew10, ← ew9, ← ew8]; refine (((sR.both ?_).both).both).both; rw [hr1, hb1] at hr3; simpa using hr3))⟩
              · skip
                have c15b : (w1 21 (m) = 1) := of_decide_eq_true c15
                refine z_aload_n C 113 0 dX7_body_112 rfl rfl ?_
                refine m_geta C hκ 116 25 (by decide) rfl q2020 rfl dX7_body_113 rfl ?_
                refine z_iload_n C 117 1 dX7_body_116 rfl rfl ?_
                refine z_iload C 119 5 dX7_body_117 rfl rfl ?_
                obtain ⟨w12, ew12⟩ : ∃ wz, mset w1 25 (m) (w 25 (m)) = wz := ⟨_, rfl⟩
                have hw12 : mWF w12 := ew12 ▸ hw1.set (hw.r _ _ rfl) rfl
                refine m_iast (len := 100) (w' := w12) C hκ hD 120 25 (by decide) rfl rfl (by omega) (by omega) dX7_body_119 rfl ew12 ?_
                refine z_iload C 122 6 dX7_body_120 rfl rfl ?_
                refine z_if_eq C 130 125 dX7_body_122 (by decide) ⟨by decide, by decide⟩ rfl (fun c16 => absurd c16 (by decide)) (fun c16 => ?_)
                refine z_bipush C 127 dX7_body_125 (by decide) rfl ?_
                refine z_goto C 131 dX7_body_127 (by decide) ?_
                exact z_iret C dX7_body_131 rfl (Nat.le_of_ble_eq_true rfl) (Nat.le_of_ble_eq_true rfl) ⟨_, _, rfl, rfl, hw12, ⟨by decide, by decide⟩, (by have hb9 : boB w m k = true := (by clear C hκ hκl; unfold boB; simp_all <;> omega); have hg9 : boG w m k x y = true := (by clear C hκ hκl; unfold boG; first | (simp_all; done) | grind); have h21 : mb w 21 m = true := (by rw [← g21]; first | assumption | simp_all); refine ⟨?_, ?_⟩; (unfold boI; rw [hb9, hg9, h21]; rfl); (unfold boW; rw [hb9, hg9, h21, if_neg (by decide), ← ew12]; exact sR_undo hr3))⟩
            · skip
              have hc1 := hr2 (by first | assumption | simp_all); have hc2 := hcr (by rw [← hr1]; first | assumption | simp_all)
              refine z_aload_n C 75 0 dX7_body_74 rfl rfl ?_
              refine z_aload_n C 76 0 dX7_body_75 rfl rfl ?_
              refine m_geti C hκ 79 44 (by decide) rfl q2039 rfl dX7_body_76 rfl ?_
              refine z_aload_n C 80 0 dX7_body_79 rfl rfl ?_
              refine m_geta C hκ 83 17 (by decide) rfl q2012 rfl dX7_body_80 rfl ?_
              refine z_iload_n C 84 1 dX7_body_83 rfl rfl ?_
              refine m_iald (len := 100) C hκ hD 85 17 (by decide) rfl rfl (by omega) (by omega) dX7_body_84 rfl ?_
              refine z_callVF (n' := 0) (k' := 0) (As := [.int (iI (w1 44 0)), .int (iI (w1 17 (m)))]) (rest := []) C hκ hκl 88 (k7_goesInto hD hw1 (w1 44 0) (w1 17 (m)) (hw1.r _ _ rfl) (hw1.r _ _ rfl) (by omega) (by omega)) dX7_body_85 q2209 q2211 qs45 q97 q2212 znX7_goesInto (Nat.le_of_ble_eq_true rfl) (Nat.le_of_ble_eq_true rfl) (Nat.le_of_ble_eq_true rfl) (Nat.le_of_ble_eq_true rfl) mrec rfl rfl (Nat.le_of_ble_eq_true rfl) rfl rfl rfl ?_
              refine z_ifB_eq C 95 91 dX7_body_88 (by decide) rfl (fun c17 => ?_) (fun c17 => ?_)
              · skip
                refine z_iconst C 96 dX7_body_95 rfl ?_
                refine z_istore (lv' := [(0, .ref (am)), (1, .int (iI (m))), (2, .int (iI (k))), (3, .int (iI (x))), (4, .int (iI (y))), (5, .int (iI (w 25 (m)))), (6, .int (iI (0)))]) C 98 [1, 2, 3, 4, 5, 6, 0] dX7_body_96 (by decide) rfl rfl ?_
                refine z_iload C 100 6 dX7_body_98 rfl rfl ?_
                refine z_if_eq C 112 103 dX7_body_100 (by decide) ⟨by decide, by decide⟩ rfl (fun c18 => ?_) (fun c18 => absurd c18 (by decide))
                refine z_aload_n C 113 0 dX7_body_112 rfl rfl ?_
                refine m_geta C hκ 116 25 (by decide) rfl q2020 rfl dX7_body_113 rfl ?_
                refine z_iload_n C 117 1 dX7_body_116 rfl rfl ?_
                refine z_iload C 119 5 dX7_body_117 rfl rfl ?_
                obtain ⟨w13, ew13⟩ : ∃ wz, mset w1 25 (m) (w 25 (m)) = wz := ⟨_, rfl⟩
                have hw13 : mWF w13 := ew13 ▸ hw1.set (hw.r _ _ rfl) rfl
                refine m_iast (len := 100) (w' := w13) C hκ hD 120 25 (by decide) rfl rfl (by omega) (by omega) dX7_body_119 rfl ew13 ?_
                refine z_iload C 122 6 dX7_body_120 rfl rfl ?_
                refine z_if_eq C 130 125 dX7_body_122 (by decide) ⟨by decide, by decide⟩ rfl (fun c19 => ?_) (fun c19 => absurd c19 (by decide))
                refine z_iconst C 131 dX7_body_130 rfl ?_
                exact z_iret C dX7_body_131 rfl (Nat.le_of_ble_eq_true rfl) (Nat.le_of_ble_eq_true rfl) ⟨_, _, rfl, rfl, hw13, ⟨by decide, by decide⟩, (by have hb9 : boB w m k = true := (by clear C hκ hκl; unfold boB; simp_all <;> omega); have hg9 : boG w m k x y = false := (by clear C hκ hκl; unfold boG; first | (simp_all; done) | grind); refine ⟨?_, ?_⟩; (unfold boI; rw [hb9, hg9]; rfl); (unfold boW; rw [hb9, hg9, if_neg (by simp), ← ew13]; exact sR_undo hr3))⟩
              · skip
                refine z_iconst C 92 dX7_body_91 rfl ?_
                refine z_goto C 96 dX7_body_92 (by decide) ?_
                refine z_istore (lv' := [(0, .ref (am)), (1, .int (iI (m))), (2, .int (iI (k))), (3, .int (iI (x))), (4, .int (iI (y))), (5, .int (iI (w 25 (m)))), (6, .int (iI (1)))]) C 98 [1, 2, 3, 4, 5, 6, 0] dX7_body_96 (by decide) rfl rfl ?_
                refine z_iload C 100 6 dX7_body_98 rfl rfl ?_
                refine z_if_eq C 112 103 dX7_body_100 (by decide) ⟨by decide, by decide⟩ rfl (fun c20 => absurd c20 (by decide)) (fun c20 => ?_)
                refine z_aload_n C 104 0 dX7_body_103 rfl rfl ?_
                refine m_geta C hκ 107 21 (by decide) rfl q2016 rfl dX7_body_104 rfl ?_
                refine z_iload_n C 108 1 dX7_body_107 rfl rfl ?_
                refine m_bald (len := 100) C hκ hD hw1 109 21 (by decide) rfl rfl rfl (by omega) (by omega) dX7_body_108 rfl ?_
                refine z_ifB_eq C 132 112 dX7_body_109 (by decide) rfl (fun c21 => ?_) (fun c21 => ?_)
                · skip
                  have c21b : ¬ (w1 21 (m) = 1) := of_decide_eq_false c21
                  refine z_aload_n C 133 0 dX7_body_132 rfl rfl ?_
                  refine m_geta C hκ 136 21 (by decide) rfl q2016 rfl dX7_body_133 rfl ?_
                  refine z_iload_n C 137 1 dX7_body_136 rfl rfl ?_
                  refine z_iconst C 138 dX7_body_137 rfl ?_
                  obtain ⟨w14, ew14⟩ : ∃ wz, mset w1 21 (m) (1) = wz := ⟨_, rfl⟩
                  have hw14 : mWF w14 := ew14 ▸ hw1.setB (Or.inr rfl)
                  refine m_bast (len := 100) (w' := w14) C hκ hD 139 21 (by decide) rfl rfl (by omega) (by omega) (Or.inr rfl) dX7_body_138 rfl ew14 ?_
                  refine z_aload_n C 140 0 dX7_body_139 rfl rfl ?_
                  refine m_geta C hκ 143 22 (by decide) rfl q2017 rfl dX7_body_140 rfl ?_
                  refine z_iload_n C 144 1 dX7_body_143 rfl rfl ?_
                  refine z_iload_n C 145 2 dX7_body_144 rfl rfl ?_
                  obtain ⟨w15, ew15⟩ : ∃ wz, mset w14 22 (m) (k) = wz := ⟨_, rfl⟩
                  have hw15 : mWF w15 := ew15 ▸ hw14.set r_k rfl
                  refine m_iast (len := 100) (w' := w15) C hκ hD 146 22 (by decide) rfl rfl (by omega) (by omega) dX7_body_145 rfl ew15 ?_
                  refine z_aload_n C 147 0 dX7_body_146 rfl rfl ?_
                  refine m_geta C hκ 150 23 (by decide) rfl q2018 rfl dX7_body_147 rfl ?_
                  refine z_iload_n C 151 1 dX7_body_150 rfl rfl ?_
                  refine z_iload_n C 152 3 dX7_body_151 rfl rfl ?_
                  obtain ⟨w16, ew16⟩ : ∃ wz, mset w15 23 (m) (x) = wz := ⟨_, rfl⟩
                  have hw16 : mWF w16 := ew16 ▸ hw15.set r_x rfl
                  refine m_iast (len := 100) (w' := w16) C hκ hD 153 23 (by decide) rfl rfl (by omega) (by omega) dX7_body_152 rfl ew16 ?_
                  refine z_aload_n C 154 0 dX7_body_153 rfl rfl ?_
                  refine m_geta C hκ 157 24 (by decide) rfl q2019 rfl dX7_body_154 rfl ?_
                  refine z_iload_n C 158 1 dX7_body_157 rfl rfl ?_
                  refine z_iload C 160 4 dX7_body_158 rfl rfl ?_
                  obtain ⟨w17, ew17⟩ : ∃ wz, mset w16 24 (m) (y) = wz := ⟨_, rfl⟩
                  have hw17 : mWF w17 := ew17 ▸ hw16.set r_y rfl
                  refine m_iast (len := 100) (w' := w17) C hκ hD 161 24 (by decide) rfl rfl (by omega) (by omega) dX7_body_160 rfl ew17 ?_
                  refine z_iconst C 162 dX7_body_161 rfl ?_
                  exact z_iret C dX7_body_162 rfl (Nat.le_of_ble_eq_true rfl) (Nat.le_of_ble_eq_true rfl) ⟨_, _, rfl, rfl, hw17, ⟨by decide, by decide⟩, (by have hb9 : boB w m k = true := (by clear C hκ hκl; unfold boB; simp_all <;> omega); have hg9 : boG w m k x y = true := (by clear C hκ hκl; unfold boG; first | (simp_all; done) | grind); have h21 : mb w 21 m = false := (by rw [← g21]; first | assumption | simp_all); have hb1 : bdB w m k x y = true := (by unfold boG at hg9; simp at hg9; exact hg9.1); refine ⟨?_, ?_⟩; (unfold boI; rw [hb9, hg9, h21]; rfl); (unfold boW; rw [hb9, hg9, h21, if_pos (by decide)]; unfold boV; rw [← ew17, ← ew16, ← ew15, ← ew14]; refine (((sR.both ?_).both).both).both; rw [hr1, hb1] at hr3; simpa using hr3))⟩
                · skip
                  have c21b : (w1 21 (m) = 1) := of_decide_eq_true c21
                  refine z_aload_n C 113 0 dX7_body_112 rfl rfl ?_
                  refine m_geta C hκ 116 25 (by decide) rfl q2020 rfl dX7_body_113 rfl ?_
                  refine z_iload_n C 117 1 dX7_body_116 rfl rfl ?_
                  refine z_iload C 119 5 dX7_body_117 rfl rfl ?_
                  obtain ⟨w18, ew18⟩ : ∃ wz, mset w1 25 (m) (w 25 (m)) = wz := ⟨_, rfl⟩
                  have hw18 : mWF w18 := ew18 ▸ hw1.set (hw.r _ _ rfl) rfl
                  refine m_iast (len := 100) (w' := w18) C hκ hD 120 25 (by decide) rfl rfl (by omega) (by omega) dX7_body_119 rfl ew18 ?_
                  refine z_iload C 122 6 dX7_body_120 rfl rfl ?_
                  refine z_if_eq C 130 125 dX7_body_122 (by decide) ⟨by decide, by decide⟩ rfl (fun c22 => absurd c22 (by decide)) (fun c22 => ?_)
                  refine z_bipush C 127 dX7_body_125 (by decide) rfl ?_
                  refine z_goto C 131 dX7_body_127 (by decide) ?_
                  exact z_iret C dX7_body_131 rfl (Nat.le_of_ble_eq_true rfl) (Nat.le_of_ble_eq_true rfl) ⟨_, _, rfl, rfl, hw18, ⟨by decide, by decide⟩, (by have hb9 : boB w m k = true := (by clear C hκ hκl; unfold boB; simp_all <;> omega); have hg9 : boG w m k x y = true := (by clear C hκ hκl; unfold boG; first | (simp_all; done) | grind); have h21 : mb w 21 m = true := (by rw [← g21]; first | assumption | simp_all); refine ⟨?_, ?_⟩; (unfold boI; rw [hb9, hg9, h21]; rfl); (unfold boW; rw [hb9, hg9, h21, if_neg (by decide), ← ew18]; exact sR_undo hr3))⟩
      · skip
        have c3b : ¬ (((0) ≤ (k) ∧ (k) ≤ (8))) := of_decide_eq_false c3
        refine z_iconst C 31 dX7_body_30 rfl ?_
        exact z_iret C dX7_body_31 rfl (Nat.le_of_ble_eq_true rfl) (Nat.le_of_ble_eq_true rfl) ⟨_, _, rfl, rfl, hw, ⟨by decide, by decide⟩, (by have hb9 : boB w m k = false := (by clear C hκ hκl; unfold boB; first | (simp_all; done) | grind); refine ⟨?_, ?_⟩; (unfold boI; rw [hb9]; rfl); (unfold boW; rw [hb9]; exact sR.refl))⟩
