/-! ===== the Model: members declared, things made ===== -/
def meA (w : mW) (t n k y c : Int) : Bool := dcB w t && decide (0 ≤ n ∧ n ≤ 19) && mbeB w t k && (decide (y = -1) || tyB w y) && decide (0 ≤ c ∧ c ≤ 3)
def meB (w : mW) (c p q r : Int) : Bool := (decide (c ≤ 0) || tyB w p) && (decide (c ≤ 1) || tyB w q) && (decide (c ≤ 2) || tyB w r)
def meP (w : mW) (t n y c p q r : Int) : Nat → Bool := fun j => !mb w 16 j && decide (w 13 j = t) && decide (w 14 j = n) && decide (w 17 j = y) && decide (w 18 j = c) && (decide (c < 1) || decide (w 19 (3 * j) = p)) && (decide (c < 2) || decide (w 19 (3 * j + 1) = q)) && (decide (c < 3) || decide (w 19 (3 * j + 2) = r))
def meL (w : mW) (t n y c p q r : Int) : Bool := anyN (meP w t n y c p q r) (w 11 0).toNat
def meI (w : mW) (t n k y c p q r : Int) : Int := if !meA w t n k y c || !meB w c p q r then -1 else if meL w t n y c p q r then -2 else if w 11 0 = 100 then -3 else w 11 0
def meO (w : mW) (t n k y c p q r : Int) : Bool := meA w t n k y c && meB w c p q r && !meL w t n y c p q r && decide (w 11 0 ≠ 100)
def meW (w : mW) (t n k y c p q r : Int) : mW := mset (mset (mset (mset (dW w t n k y false) 18 (w 11 0) c) 19 (3 * w 11 0) p) 19 (3 * w 11 0 + 1) q) 19 (3 * w 11 0 + 2) r
/-- a thing's fields at first -/
def vlW (w : mW) (x : Int) : Nat → mW
  | 0 => w
  | n + 1 => mset (vlW w x n) 30 (100 * x + n) (if (n : Int) < w 11 0 then noneI (w 17 n) else 0)
def ilW (w : mW) (x v : Int) : Nat → mW
  | 0 => w
  | n + 1 => mset (ilW w x v n) 31 (20 * x + n) v
theorem vlW_k {w : mW} {x : Int} {n k : Nat} {i : Int} (h : k ≠ 30) : vlW w x n k i = w k i := by
  induction n with
  | zero => rfl
  | succ n ih => simp only [vlW]; rw [mset_k h, ih]
theorem ilW_k {w : mW} {x v : Int} {n k : Nat} {i : Int} (h : k ≠ 31) : ilW w x v n k i = w k i := by
  induction n with
  | zero => rfl
  | succ n ih => simp only [ilW]; rw [mset_k h, ih]
def nt0 (w : mW) (t n : Int) : mW := mset (mset (mset w 27 0 (w 27 0 + 1)) 28 (w 27 0) t) 29 (w 27 0) n
def ntvI (w : mW) (t n : Int) : Int := if n = -1 then 0 else noneI (w 4 t)
def nthW (w : mW) (t n : Int) : mW := ilW (vlW (nt0 w t n) (w 27 0) 100) (w 27 0) (ntvI w t n) 20
def obB (w : mW) (t : Int) : Bool := clB w t && decide (w 27 0 ≠ 80) && decide (w 1 t ≠ 2)
def obI (w : mW) (t : Int) : Int := if !clB w t then -1 else if w 27 0 = 80 then -3 else if w 1 t = 2 then -17 else w 27 0
def obW (w : mW) (t : Int) : mW := if obB w t then nthW w t (-1) else w
def roB (w : mW) (t n : Int) : Bool := tyB w t && decide (w 1 t = 4) && decide (n ≤ 20)
def roI (w : mW) (t n : Int) : Int := if !roB w t n then -1 else if w 27 0 = 80 then -3 else if n < 0 then -15 else w 27 0
def roW (w : mW) (t n : Int) : mW := if roB w t n && decide (w 27 0 ≠ 80) && decide (0 ≤ n) then nthW w t n else w
theorem vlW_wf {w : mW} {x : Int} (hw : mWF w) : ∀ n : Nat, mWF (vlW w x n)
  | 0 => hw
  | n + 1 => (vlW_wf hw n).setL (by split; exact noneI_L _; exact ⟨by decide, by decide⟩) rfl rfl
theorem ilW_wf {w : mW} {x v : Int} (hw : mWF w) (hv : inL v) : ∀ n : Nat, mWF (ilW w x v n)
  | 0 => hw
  | n + 1 => (ilW_wf hw hv n).setL hv rfl rfl
theorem nthW_wf {w : mW} {t n : Int} (hw : mWF w) (h1 : inR t) (h2 : inR n) (h : 0 ≤ w 27 0 ∧ w 27 0 < 80) : mWF (nthW w t n) :=
  ilW_wf (vlW_wf (((hw.set ⟨by omega, by omega⟩ rfl).set h1 rfl).set h2 rfl) _) (by unfold ntvI; split; exact ⟨by decide, by decide⟩; exact noneI_L _) _
theorem dW_k {w : mW} {t n k y : Int} {f : Bool} {g : Nat} {i : Int} (h : g < 11 ∨ g = 12 ∨ g = 19 ∨ g = 23 ∨ g = 24 ∨ g = 25 ∨ 26 < g) : dW w t n k y f g i = w g i := by
  unfold dW
  rw [mset_k (by omega), mset_k (by omega), mset_k (by omega), mset_k (by omega), mset_k (by omega), mset_k (by omega), mset_k (by omega), mset_k (by omega), mset_k (by omega), mset_k (by omega), mset_k (by omega)]

set_option maxRecDepth 100000 in
theorem k7_field {l : Launch} {θ : zTh} {N : zMap} {am : Nat} {ar : Nat → Nat} {w : mW} (hD : mDis am ar) (hw : mWF w) (t : Int) (n : Int) (k : Int) (y : Int) (r_t : inR t) (r_n : inR n) (r_k : inR k) (r_y : inR y) (hS : mS w) (hf : 0 ≤ w 12 0 ∧ w 12 0 ≤ 100) : ZF θ l yX7_field cX7_field 5 (some .int) ⟨4, 0, 0, 88⟩ [.ref (am), .int (iI (t)), .int (iI (n)), .int (iI (k)), .int (iI (y))] (mP θ am ar w N) (some (.int (iI (fiI w t n k y)))) (mP θ am ar (fiW w t n k y) N) := by
  refine z_start (own := RX7) (nm := "field") pnX7 rfl rfl (Nat.le_of_ble_eq_true rfl) ?_
  intro κ hκ hκl C
  change Z κ (mP θ am ar w N) 0 0 0 [(0, .ref (am)), (1, .int (iI (t))), (2, .int (iI (n))), (3, .int (iI (k))), (4, .int (iI (y)))] []
  have hB := hS.B
  obtain ⟨hB1, hB2, hB3, hB4, hB5, hB6⟩ := hS.B
  have hC := hS.C
  refine z_aload_n C 1 0 dX7_field_0 rfl rfl ?_
  refine z_iload_n C 2 1 dX7_field_1 rfl rfl ?_
  refine z_callVF (n' := 0) (k' := 0) (As := [.int (iI (t))]) (rest := []) C hκ hκl 5 (k7_declares hD hw (t) r_t hB) dX7_field_2 q2184 q2186 qs42 q97 q2187 znX7_declares (Nat.le_of_ble_eq_true rfl) (Nat.le_of_ble_eq_true rfl) (Nat.le_of_ble_eq_true rfl) (Nat.le_of_ble_eq_true rfl) mrec rfl rfl (Nat.le_of_ble_eq_true rfl) rfl rfl rfl ?_
  refine z_ifB_eq C 57 8 dX7_field_5 (by decide) rfl (fun c1 => ?_) (fun c1 => ?_)
  · skip
    have c1b : ¬ (0 ≤ (t) ∧ (t) < w 0 0 ∧ (t) ≠ 8 ∧ (w 1 (t) = 1 ∨ w 1 (t) = 2 ∨ w 1 (t) = 3)) := of_decide_eq_false c1
    refine z_iconst C 58 dX7_field_57 rfl ?_
    exact z_iret C dX7_field_58 rfl (Nat.le_of_ble_eq_true rfl) (Nat.le_of_ble_eq_true rfl) ⟨congrArg (fun z => some (Value.int (iI z))) (by clear C hκ hκl hS hB hB1 hB2 hB3 hB4 hB5 hB6 hC hD hw; unfold fiI; rw [if_pos]; unfold fiB; first | (simp_all; done) | grind), (congrArg (fun w' => mP θ am ar w' N) (by clear C hκ hκl hS hB hB1 hB2 hB3 hB4 hB5 hB6 hC hD hw; unfold fiW fiO; rw [if_neg]; unfold fiB; first | (simp_all; done) | grind))⟩
  · skip
    have c1b : (0 ≤ (t) ∧ (t) < w 0 0 ∧ (t) ≠ 8 ∧ (w 1 (t) = 1 ∨ w 1 (t) = 2 ∨ w 1 (t) = 3)) := of_decide_eq_true c1
    refine z_iload_n C 9 2 dX7_field_8 rfl rfl ?_
    refine z_i2l C 10 dX7_field_9 r_n rfl ?_
    refine z_lconst (x := 0) C 11 dX7_field_10 rfl rfl ?_
    refine z_ldc2 (z := 19) C 14 dX7_field_11 q2232 (by decide) rfl ?_
    refine z_callSF (n' := 0) (k' := 0) (As := [.long (lI (n)), .long (lI (0)), .long (lI (19))]) (rest := []) C hκ hκl 17 (k7_in (n) (0) (19) (inR_L r_n) ⟨by decide, by decide⟩ ⟨by decide, by decide⟩) dX7_field_14 q2164 q2165 q97 q2166 znX7_in (Nat.le_of_ble_eq_true rfl) (Nat.le_of_ble_eq_true rfl) (Nat.le_of_ble_eq_true rfl) (Nat.le_of_ble_eq_true rfl) rfl (Nat.le_of_ble_eq_true rfl) rfl rfl rfl ?_
    refine z_ifB_eq C 57 20 dX7_field_17 (by decide) rfl (fun c2 => ?_) (fun c2 => ?_)
    · skip
      have c2b : ¬ (((0) ≤ (n) ∧ (n) ≤ (19))) := of_decide_eq_false c2
      refine z_iconst C 58 dX7_field_57 rfl ?_
      exact z_iret C dX7_field_58 rfl (Nat.le_of_ble_eq_true rfl) (Nat.le_of_ble_eq_true rfl) ⟨congrArg (fun z => some (Value.int (iI z))) (by clear C hκ hκl hS hB hB1 hB2 hB3 hB4 hB5 hB6 hC hD hw; unfold fiI; rw [if_pos]; unfold fiB; first | (simp_all; done) | grind), (congrArg (fun w' => mP θ am ar w' N) (by clear C hκ hκl hS hB hB1 hB2 hB3 hB4 hB5 hB6 hC hD hw; unfold fiW fiO; rw [if_neg]; unfold fiB; first | (simp_all; done) | grind))⟩
    · skip
      have c2b : (((0) ≤ (n) ∧ (n) ≤ (19))) := of_decide_eq_true c2
      refine z_iload_n C 21 3 dX7_field_20 rfl rfl ?_
      refine z_i2l C 22 dX7_field_21 r_k rfl ?_
      refine z_lconst (x := 0) C 23 dX7_field_22 rfl rfl ?_
      refine z_ldc2 (z := 15) C 26 dX7_field_23 q2233 (by decide) rfl ?_
      refine z_callSF (n' := 0) (k' := 0) (As := [.long (lI (k)), .long (lI (0)), .long (lI (15))]) (rest := []) C hκ hκl 29 (k7_in (k) (0) (15) (inR_L r_k) ⟨by decide, by decide⟩ ⟨by decide, by decide⟩) dX7_field_26 q2164 q2165 q97 q2166 znX7_in (Nat.le_of_ble_eq_true rfl) (Nat.le_of_ble_eq_true rfl) (Nat.le_of_ble_eq_true rfl) (Nat.le_of_ble_eq_true rfl) rfl (Nat.le_of_ble_eq_true rfl) rfl rfl rfl ?_
      refine z_ifB_eq C 57 32 dX7_field_29 (by decide) rfl (fun c3 => ?_) (fun c3 => ?_)
      · skip
        have c3b : ¬ (((0) ≤ (k) ∧ (k) ≤ (15))) := of_decide_eq_false c3
        refine z_iconst C 58 dX7_field_57 rfl ?_
        exact z_iret C dX7_field_58 rfl (Nat.le_of_ble_eq_true rfl) (Nat.le_of_ble_eq_true rfl) ⟨congrArg (fun z => some (Value.int (iI z))) (by clear C hκ hκl hS hB hB1 hB2 hB3 hB4 hB5 hB6 hC hD hw; unfold fiI; rw [if_pos]; unfold fiB; first | (simp_all; done) | grind), (congrArg (fun w' => mP θ am ar w' N) (by clear C hκ hκl hS hB hB1 hB2 hB3 hB4 hB5 hB6 hC hD hw; unfold fiW fiO; rw [if_neg]; unfold fiB; first | (simp_all; done) | grind))⟩
      · skip
        have c3b : (((0) ≤ (k) ∧ (k) ≤ (15))) := of_decide_eq_true c3
        refine z_aload_n C 33 0 dX7_field_32 rfl rfl ?_
        refine m_geta C hκ 36 1 (by decide) rfl q1996 rfl dX7_field_33 rfl ?_
        refine z_iload_n C 37 1 dX7_field_36 rfl rfl ?_
        obtain ⟨f4a, f4b, f4c, f4d, f4e, f4f, f4g, f4h⟩ := hS.T (show 0 ≤ t by omega) (by omega)
        refine m_iald (len := 60) C hκ hD 38 1 (by decide) rfl rfl (by omega) (by omega) dX7_field_37 rfl ?_
        refine z_iconst C 39 dX7_field_38 rfl ?_
        refine z_icmp_ne C 48 42 dX7_field_39 (by decide) (hw.r _ _ rfl) ⟨by decide, by decide⟩ rfl (fun c5 => ?_) (fun c5 => ?_)
        · skip
          refine z_aload_n C 49 0 dX7_field_48 rfl rfl ?_
          refine z_iload C 51 4 dX7_field_49 rfl rfl ?_
          refine z_callVF (n' := 0) (k' := 0) (As := [.int (iI (y))]) (rest := []) C hκ hκl 54 (k7_isType hD hw (y) r_y hB) dX7_field_51 q2160 q2162 qs40 q97 q2163 znX7_isType (Nat.le_of_ble_eq_true rfl) (Nat.le_of_ble_eq_true rfl) (Nat.le_of_ble_eq_true rfl) (Nat.le_of_ble_eq_true rfl) mrec rfl rfl (Nat.le_of_ble_eq_true rfl) rfl rfl rfl ?_
          refine z_ifB_ne C 59 57 dX7_field_54 (by decide) rfl (fun c6 => ?_) (fun c6 => ?_)
          · skip
            have c6b : (0 ≤ (y) ∧ (y) < w 0 0) := of_decide_eq_true c6
            have hfB : fiB w t n k y = true := by unfold fiB; simp_all
            refine z_aload_n C 60 0 dX7_field_59 rfl rfl ?_
            refine z_iload_n C 61 1 dX7_field_60 rfl rfl ?_
            refine z_iload_n C 62 2 dX7_field_61 rfl rfl ?_
            refine z_callVF (n' := 0) (k' := 0) (As := [.int (iI (t)), .int (iI (n))]) (rest := []) C hκ hκl 65 (k7_ownField hD hw (t) (n) r_t r_n hB) dX7_field_62 q2234 q2236 qs47 q97 q2237 znX7_ownField (Nat.le_of_ble_eq_true rfl) (Nat.le_of_ble_eq_true rfl) (Nat.le_of_ble_eq_true rfl) (Nat.le_of_ble_eq_true rfl) mrec rfl rfl (Nat.le_of_ble_eq_true rfl) rfl rfl rfl ?_
            have h7 := ofI_r (w := w) (t := t) (n := n) (by omega)
            refine z_iconst C 66 dX7_field_65 rfl ?_
            refine z_icmp_ne C 83 69 dX7_field_66 (by decide) ⟨by omega, by omega⟩ ⟨by decide, by decide⟩ rfl (fun c8 => ?_) (fun c8 => ?_)
            · skip
              refine z_bipush C 85 dX7_field_83 (by decide) rfl ?_
              exact z_iret C dX7_field_85 rfl (Nat.le_of_ble_eq_true rfl) (Nat.le_of_ble_eq_true rfl) ⟨congrArg (fun z => some (Value.int (iI z))) (by clear C hκ hκl hS hB hB1 hB2 hB3 hB4 hB5 hB6 hC hD hw f4a f4b f4c f4d f4e f4f f4g f4h; unfold fiI; rw [if_neg (by simp_all), if_pos]; unfold fiN; simp_all), (congrArg (fun w' => mP θ am ar w' N) (by clear C hκ hκl hS hB hB1 hB2 hB3 hB4 hB5 hB6 hC hD hw f4a f4b f4c f4d f4e f4f f4g f4h; unfold fiW fiO; rw [if_neg]; unfold fiN; first | (simp_all; done) | grind))⟩
            · skip
              refine z_iload_n C 70 3 dX7_field_69 rfl rfl ?_
              refine z_iconst C 71 dX7_field_70 rfl ?_
              refine z_iand C 72 dX7_field_71 rfl ?_
              refine z_if_ne C 86 75 dX7_field_72 (by decide) (inR_zand _ _) rfl (fun c9 => ?_) (fun c9 => ?_)
              · skip
                have hfN : fiN w t n k = false := by unfold fiN; simp_all
                refine z_aload_n C 87 0 dX7_field_86 rfl rfl ?_
                refine m_geti C hκ 90 11 (by decide) rfl q2006 rfl dX7_field_87 rfl ?_
                refine z_bipush C 92 dX7_field_90 (by decide) rfl ?_
                refine z_icmp_ne C 98 95 dX7_field_92 (by decide) (hw.r _ _ rfl) ⟨by decide, by decide⟩ rfl (fun c10 => ?_) (fun c10 => ?_)
                · skip
                  refine z_aload_n C 99 0 dX7_field_98 rfl rfl ?_
                  refine z_dup C 100 dX7_field_99 rfl rfl ?_
                  refine m_geti C hκ 103 12 (by decide) rfl q2007 rfl dX7_field_100 rfl ?_
                  refine z_iconst C 104 dX7_field_103 rfl ?_
                  refine z_iadd C 105 dX7_field_104 rfl ?_
                  obtain ⟨w1, ew1⟩ : ∃ wz, mset w 12 (0) ((w 12 0) + (1)) = wz := ⟨_, rfl⟩
                  have hw1 : mWF w1 := ew1 ▸ hw.set ⟨by omega, by omega⟩ rfl
                  refine m_puti (w' := w1) C hκ 108 12 (by decide) (by decide) rfl q2007 rfl rfl rfl rfl dX7_field_105 rfl ew1 ?_
                  have z1 : w1 11 0 = w 11 0 := by rw [← ew1]; exact mset_k (by decide)
                  refine z_aload_n C 109 0 dX7_field_108 rfl rfl ?_
                  refine z_iload_n C 110 1 dX7_field_109 rfl rfl ?_
                  refine z_iload_n C 111 2 dX7_field_110 rfl rfl ?_
                  refine z_iload_n C 112 3 dX7_field_111 rfl rfl ?_
                  refine z_iload C 114 4 dX7_field_112 rfl rfl ?_
                  refine z_iconst C 115 dX7_field_114 rfl ?_
                  refine z_callVF (n' := 0) (k' := 0) (As := [.int (iI (t)), .int (iI (n)), .int (iI (k)), .int (iI (y)), .int (iI (1))]) (rest := []) C hκ hκl 118 (k7_declare hD hw1 (t) (n) (k) (y) (true) r_t r_n r_k r_y (by omega)) dX7_field_115 q2238 q2240 qs48 q97 q2241 znX7_declare (Nat.le_of_ble_eq_true rfl) (Nat.le_of_ble_eq_true rfl) (Nat.le_of_ble_eq_true rfl) (Nat.le_of_ble_eq_true rfl) mrec rfl rfl (Nat.le_of_ble_eq_true rfl) rfl rfl rfl ?_
                  obtain ⟨w2, ew2⟩ : ∃ wz, dW w1 (t) (n) (k) (y) (true) = wz := ⟨_, rfl⟩
                  rw [ew2]
                  have hw2 : mWF w2 := ew2 ▸ (dW_wf hw1 r_t r_n r_k r_y (by omega))
                  exact z_iret C dX7_field_118 rfl (Nat.le_of_ble_eq_true rfl) (Nat.le_of_ble_eq_true rfl) ⟨congrArg (fun z => some (Value.int (iI z))) (by rw [z1]; unfold fiI; rw [if_neg (by simp_all), if_neg (by simp_all), if_neg (by omega)]), (congrArg (fun w' => mP θ am ar w' N) (by clear C hκ hκl hS hB hB1 hB2 hB3 hB4 hB5 hB6 hC hD hw f4a f4b f4c f4d f4e f4f f4g f4h; unfold fiW fiO; rw [if_pos (by simp_all)]; subst_vars; rfl))⟩
                · skip
                  refine z_bipush C 97 dX7_field_95 (by decide) rfl ?_
                  exact z_iret C dX7_field_97 rfl (Nat.le_of_ble_eq_true rfl) (Nat.le_of_ble_eq_true rfl) ⟨congrArg (fun z => some (Value.int (iI z))) (by unfold fiI; rw [if_neg (by simp_all), if_neg (by simp_all), if_pos (by omega)]), (congrArg (fun w' => mP θ am ar w' N) (by clear C hκ hκl hS hB hB1 hB2 hB3 hB4 hB5 hB6 hC hD hw f4a f4b f4c f4d f4e f4f f4g f4h; unfold fiW fiO; rw [if_neg]; simp_all))⟩
              · skip
                refine z_aload_n C 76 0 dX7_field_75 rfl rfl ?_
                refine z_iload_n C 77 1 dX7_field_76 rfl rfl ?_
                refine z_callVF (n' := 0) (k' := 0) (As := [.int (iI (t))]) (rest := []) C hκ hκl 80 (k7_isClosed hD hw (t) r_t hS (by omega)) dX7_field_77 q2193 q2195 qs43 q97 q2196 znX7_isClosed (Nat.le_of_ble_eq_true rfl) (Nat.le_of_ble_eq_true rfl) (Nat.le_of_ble_eq_true rfl) (Nat.le_of_ble_eq_true rfl) mrec rfl rfl (Nat.le_of_ble_eq_true rfl) rfl rfl rfl ?_
                refine z_ifB_eq C 86 83 dX7_field_80 (by decide) rfl (fun c11 => ?_) (fun c11 => ?_)
                · skip
                  have hfN : fiN w t n k = false := by unfold fiN; simp_all
                  refine z_aload_n C 87 0 dX7_field_86 rfl rfl ?_
                  refine m_geti C hκ 90 11 (by decide) rfl q2006 rfl dX7_field_87 rfl ?_
                  refine z_bipush C 92 dX7_field_90 (by decide) rfl ?_
                  refine z_icmp_ne C 98 95 dX7_field_92 (by decide) (hw.r _ _ rfl) ⟨by decide, by decide⟩ rfl (fun c12 => ?_) (fun c12 => ?_)
                  · skip
                    refine z_aload_n C 99 0 dX7_field_98 rfl rfl ?_
                    refine z_dup C 100 dX7_field_99 rfl rfl ?_
                    refine m_geti C hκ 103 12 (by decide) rfl q2007 rfl dX7_field_100 rfl ?_
                    refine z_iconst C 104 dX7_field_103 rfl ?_
                    refine z_iadd C 105 dX7_field_104 rfl ?_
                    obtain ⟨w3, ew3⟩ : ∃ wz, mset w 12 (0) ((w 12 0) + (1)) = wz := ⟨_, rfl⟩
                    have hw3 : mWF w3 := ew3 ▸ hw.set ⟨by omega, by omega⟩ rfl
                    refine m_puti (w' := w3) C hκ 108 12 (by decide) (by decide) rfl q2007 rfl rfl rfl rfl dX7_field_105 rfl ew3 ?_
                    have z1 : w3 11 0 = w 11 0 := by rw [← ew3]; exact mset_k (by decide)
                    refine z_aload_n C 109 0 dX7_field_108 rfl rfl ?_
                    refine z_iload_n C 110 1 dX7_field_109 rfl rfl ?_
                    refine z_iload_n C 111 2 dX7_field_110 rfl rfl ?_
                    refine z_iload_n C 112 3 dX7_field_111 rfl rfl ?_
                    refine z_iload C 114 4 dX7_field_112 rfl rfl ?_
                    refine z_iconst C 115 dX7_field_114 rfl ?_
                    refine z_callVF (n' := 0) (k' := 0) (As := [.int (iI (t)), .int (iI (n)), .int (iI (k)), .int (iI (y)), .int (iI (1))]) (rest := []) C hκ hκl 118 (k7_declare hD hw3 (t) (n) (k) (y) (true) r_t r_n r_k r_y (by omega)) dX7_field_115 q2238 q2240 qs48 q97 q2241 znX7_declare (Nat.le_of_ble_eq_true rfl) (Nat.le_of_ble_eq_true rfl) (Nat.le_of_ble_eq_true rfl) (Nat.le_of_ble_eq_true rfl) mrec rfl rfl (Nat.le_of_ble_eq_true rfl) rfl rfl rfl ?_
                    obtain ⟨w4, ew4⟩ : ∃ wz, dW w3 (t) (n) (k) (y) (true) = wz := ⟨_, rfl⟩
                    rw [ew4]
                    have hw4 : mWF w4 := ew4 ▸ (dW_wf hw3 r_t r_n r_k r_y (by omega))
                    exact z_iret C dX7_field_118 rfl (Nat.le_of_ble_eq_true rfl) (Nat.le_of_ble_eq_true rfl) ⟨congrArg (fun z => some (Value.int (iI z))) (by rw [z1]; unfold fiI; rw [if_neg (by simp_all), if_neg (by simp_all), if_neg (by omega)]), (congrArg (fun w' => mP θ am ar w' N) (by clear C hκ hκl hS hB hB1 hB2 hB3 hB4 hB5 hB6 hC hD hw f4a f4b f4c f4d f4e f4f f4g f4h; unfold fiW fiO; rw [if_pos (by simp_all)]; subst_vars; rfl))⟩
                  · skip
                    refine z_bipush C 97 dX7_field_95 (by decide) rfl ?_
                    exact z_iret C dX7_field_97 rfl (Nat.le_of_ble_eq_true rfl) (Nat.le_of_ble_eq_true rfl) ⟨congrArg (fun z => some (Value.int (iI z))) (by unfold fiI; rw [if_neg (by simp_all), if_neg (by simp_all), if_pos (by omega)]), (congrArg (fun w' => mP θ am ar w' N) (by clear C hκ hκl hS hB hB1 hB2 hB3 hB4 hB5 hB6 hC hD hw f4a f4b f4c f4d f4e f4f f4g f4h; unfold fiW fiO; rw [if_neg]; simp_all))⟩
                · skip
                  refine z_bipush C 85 dX7_field_83 (by decide) rfl ?_
                  exact z_iret C dX7_field_85 rfl (Nat.le_of_ble_eq_true rfl) (Nat.le_of_ble_eq_true rfl) ⟨congrArg (fun z => some (Value.int (iI z))) (by clear C hκ hκl hS hB hB1 hB2 hB3 hB4 hB5 hB6 hC hD hw f4a f4b f4c f4d f4e f4f f4g f4h; unfold fiI; rw [if_neg (by simp_all), if_pos]; unfold fiN; simp_all), (congrArg (fun w' => mP θ am ar w' N) (by clear C hκ hκl hS hB hB1 hB2 hB3 hB4 hB5 hB6 hC hD hw f4a f4b f4c f4d f4e f4f f4g f4h; unfold fiW fiO; rw [if_neg]; unfold fiN; first | (simp_all; done) | grind))⟩
          · skip
            have c6b : ¬ (0 ≤ (y) ∧ (y) < w 0 0) := of_decide_eq_false c6
            refine z_iconst C 58 dX7_field_57 rfl ?_
            exact z_iret C dX7_field_58 rfl (Nat.le_of_ble_eq_true rfl) (Nat.le_of_ble_eq_true rfl) ⟨congrArg (fun z => some (Value.int (iI z))) (by clear C hκ hκl hS hB hB1 hB2 hB3 hB4 hB5 hB6 hC hD hw f4a f4b f4c f4d f4e f4f f4g f4h; unfold fiI; rw [if_pos]; unfold fiB; first | (simp_all; done) | grind), (congrArg (fun w' => mP θ am ar w' N) (by clear C hκ hκl hS hB hB1 hB2 hB3 hB4 hB5 hB6 hC hD hw f4a f4b f4c f4d f4e f4f f4g f4h; unfold fiW fiO; rw [if_neg]; unfold fiB; first | (simp_all; done) | grind))⟩
        · skip
          refine z_iload_n C 43 3 dX7_field_42 rfl rfl ?_
          refine z_bipush C 45 dX7_field_43 (by decide) rfl ?_
          refine z_icmp_ne C 57 48 dX7_field_45 (by decide) r_k ⟨by decide, by decide⟩ rfl (fun c13 => ?_) (fun c13 => ?_)
          · skip
            refine z_iconst C 58 dX7_field_57 rfl ?_
            exact z_iret C dX7_field_58 rfl (Nat.le_of_ble_eq_true rfl) (Nat.le_of_ble_eq_true rfl) ⟨congrArg (fun z => some (Value.int (iI z))) (by clear C hκ hκl hS hB hB1 hB2 hB3 hB4 hB5 hB6 hC hD hw f4a f4b f4c f4d f4e f4f f4g f4h; unfold fiI; rw [if_pos]; unfold fiB; first | (simp_all; done) | grind), (congrArg (fun w' => mP θ am ar w' N) (by clear C hκ hκl hS hB hB1 hB2 hB3 hB4 hB5 hB6 hC hD hw f4a f4b f4c f4d f4e f4f f4g f4h; unfold fiW fiO; rw [if_neg]; unfold fiB; first | (simp_all; done) | grind))⟩
          · skip
            refine z_aload_n C 49 0 dX7_field_48 rfl rfl ?_
            refine z_iload C 51 4 dX7_field_49 rfl rfl ?_
            refine z_callVF (n' := 0) (k' := 0) (As := [.int (iI (y))]) (rest := []) C hκ hκl 54 (k7_isType hD hw (y) r_y hB) dX7_field_51 q2160 q2162 qs40 q97 q2163 znX7_isType (Nat.le_of_ble_eq_true rfl) (Nat.le_of_ble_eq_true rfl) (Nat.le_of_ble_eq_true rfl) (Nat.le_of_ble_eq_true rfl) mrec rfl rfl (Nat.le_of_ble_eq_true rfl) rfl rfl rfl ?_
            refine z_ifB_ne C 59 57 dX7_field_54 (by decide) rfl (fun c14 => ?_) (fun c14 => ?_)
            · skip
              have c14b : (0 ≤ (y) ∧ (y) < w 0 0) := of_decide_eq_true c14
              have hfB : fiB w t n k y = true := by unfold fiB; simp_all
              refine z_aload_n C 60 0 dX7_field_59 rfl rfl ?_
              refine z_iload_n C 61 1 dX7_field_60 rfl rfl ?_
              refine z_iload_n C 62 2 dX7_field_61 rfl rfl ?_
              refine z_callVF (n' := 0) (k' := 0) (As := [.int (iI (t)), .int (iI (n))]) (rest := []) C hκ hκl 65 (k7_ownField hD hw (t) (n) r_t r_n hB) dX7_field_62 q2234 q2236 qs47 q97 q2237 znX7_ownField (Nat.le_of_ble_eq_true rfl) (Nat.le_of_ble_eq_true rfl) (Nat.le_of_ble_eq_true rfl) (Nat.le_of_ble_eq_true rfl) mrec rfl rfl (Nat.le_of_ble_eq_true rfl) rfl rfl rfl ?_
              have h15 := ofI_r (w := w) (t := t) (n := n) (by omega)
              refine z_iconst C 66 dX7_field_65 rfl ?_
              refine z_icmp_ne C 83 69 dX7_field_66 (by decide) ⟨by omega, by omega⟩ ⟨by decide, by decide⟩ rfl (fun c16 => ?_) (fun c16 => ?_)
              · skip
                refine z_bipush C 85 dX7_field_83 (by decide) rfl ?_
                exact z_iret C dX7_field_85 rfl (Nat.le_of_ble_eq_true rfl) (Nat.le_of_ble_eq_true rfl) ⟨congrArg (fun z => some (Value.int (iI z))) (by clear C hκ hκl hS hB hB1 hB2 hB3 hB4 hB5 hB6 hC hD hw f4a f4b f4c f4d f4e f4f f4g f4h; unfold fiI; rw [if_neg (by simp_all), if_pos]; unfold fiN; simp_all), (congrArg (fun w' => mP θ am ar w' N) (by clear C hκ hκl hS hB hB1 hB2 hB3 hB4 hB5 hB6 hC hD hw f4a f4b f4c f4d f4e f4f f4g f4h; unfold fiW fiO; rw [if_neg]; unfold fiN; first | (simp_all; done) | grind))⟩
              · skip
                refine z_iload_n C 70 3 dX7_field_69 rfl rfl ?_
                refine z_iconst C 71 dX7_field_70 rfl ?_
                refine z_iand C 72 dX7_field_71 rfl ?_
                refine z_if_ne C 86 75 dX7_field_72 (by decide) (inR_zand _ _) rfl (fun c17 => ?_) (fun c17 => ?_)
                · skip
                  have hfN : fiN w t n k = false := by unfold fiN; simp_all
                  refine z_aload_n C 87 0 dX7_field_86 rfl rfl ?_
                  refine m_geti C hκ 90 11 (by decide) rfl q2006 rfl dX7_field_87 rfl ?_
                  refine z_bipush C 92 dX7_field_90 (by decide) rfl ?_
                  refine z_icmp_ne C 98 95 dX7_field_92 (by decide) (hw.r _ _ rfl) ⟨by decide, by decide⟩ rfl (fun c18 => ?_) (fun c18 => ?_)
                  · skip
                    refine z_aload_n C 99 0 dX7_field_98 rfl rfl ?_
                    refine z_dup C 100 dX7_field_99 rfl rfl ?_
                    refine m_geti C hκ 103 12 (by decide) rfl q2007 rfl dX7_field_100 rfl ?_
                    refine z_iconst C 104 dX7_field_103 rfl ?_
                    refine z_iadd C 105 dX7_field_104 rfl ?_
                    obtain ⟨w5, ew5⟩ : ∃ wz, mset w 12 (0) ((w 12 0) + (1)) = wz := ⟨_, rfl⟩
                    have hw5 : mWF w5 := ew5 ▸ hw.set ⟨by omega, by omega⟩ rfl
                    refine m_puti (w' := w5) C hκ 108 12 (by decide) (by decide) rfl q2007 rfl rfl rfl rfl dX7_field_105 rfl ew5 ?_
                    have z1 : w5 11 0 = w 11 0 := by rw [← ew5]; exact mset_k (by decide)
                    refine z_aload_n C 109 0 dX7_field_108 rfl rfl ?_
                    refine z_iload_n C 110 1 dX7_field_109 rfl rfl ?_
                    refine z_iload_n C 111 2 dX7_field_110 rfl rfl ?_
                    refine z_iload_n C 112 3 dX7_field_111 rfl rfl ?_
                    refine z_iload C 114 4 dX7_field_112 rfl rfl ?_
                    refine z_iconst C 115 dX7_field_114 rfl ?_
                    refine z_callVF (n' := 0) (k' := 0) (As := [.int (iI (t)), .int (iI (n)), .int (iI (k)), .int (iI (y)), .int (iI (1))]) (rest := []) C hκ hκl 118 (k7_declare hD hw5 (t) (n) (k) (y) (true) r_t r_n r_k r_y (by omega)) dX7_field_115 q2238 q2240 qs48 q97 q2241 znX7_declare (Nat.le_of_ble_eq_true rfl) (Nat.le_of_ble_eq_true rfl) (Nat.le_of_ble_eq_true rfl) (Nat.le_of_ble_eq_true rfl) mrec rfl rfl (Nat.le_of_ble_eq_true rfl) rfl rfl rfl ?_
                    obtain ⟨w6, ew6⟩ : ∃ wz, dW w5 (t) (n) (k) (y) (true) = wz := ⟨_, rfl⟩
                    rw [ew6]
                    have hw6 : mWF w6 := ew6 ▸ (dW_wf hw5 r_t r_n r_k r_y (by omega))
                    exact z_iret C dX7_field_118 rfl (Nat.le_of_ble_eq_true rfl) (Nat.le_of_ble_eq_true rfl) ⟨congrArg (fun z => some (Value.int (iI z))) (by rw [z1]; unfold fiI; rw [if_neg (by simp_all), if_neg (by simp_all), if_neg (by omega)]), (congrArg (fun w' => mP θ am ar w' N) (by clear C hκ hκl hS hB hB1 hB2 hB3 hB4 hB5 hB6 hC hD hw f4a f4b f4c f4d f4e f4f f4g f4h; unfold fiW fiO; rw [if_pos (by simp_all)]; subst_vars; rfl))⟩
                  · skip
                    refine z_bipush C 97 dX7_field_95 (by decide) rfl ?_
                    exact z_iret C dX7_field_97 rfl (Nat.le_of_ble_eq_true rfl) (Nat.le_of_ble_eq_true rfl) ⟨congrArg (fun z => some (Value.int (iI z))) (by unfold fiI; rw [if_neg (by simp_all), if_neg (by simp_all), if_pos (by omega)]), (congrArg (fun w' => mP θ am ar w' N) (by clear C hκ hκl hS hB hB1 hB2 hB3 hB4 hB5 hB6 hC hD hw f4a f4b f4c f4d f4e f4f f4g f4h; unfold fiW fiO; rw [if_neg]; simp_all))⟩
                · skip
                  refine z_aload_n C 76 0 dX7_field_75 rfl rfl ?_
                  refine z_iload_n C 77 1 dX7_field_76 rfl rfl ?_
                  refine z_callVF (n' := 0) (k' := 0) (As := [.int (iI (t))]) (rest := []) C hκ hκl 80 (k7_isClosed hD hw (t) r_t hS (by omega)) dX7_field_77 q2193 q2195 qs43 q97 q2196 znX7_isClosed (Nat.le_of_ble_eq_true rfl) (Nat.le_of_ble_eq_true rfl) (Nat.le_of_ble_eq_true rfl) (Nat.le_of_ble_eq_true rfl) mrec rfl rfl (Nat.le_of_ble_eq_true rfl) rfl rfl rfl ?_
                  refine z_ifB_eq C 86 83 dX7_field_80 (by decide) rfl (fun c19 => ?_) (fun c19 => ?_)
                  · skip
                    have hfN : fiN w t n k = false := by unfold fiN; simp_all
                    refine z_aload_n C 87 0 dX7_field_86 rfl rfl ?_
                    refine m_geti C hκ 90 11 (by decide) rfl q2006 rfl dX7_field_87 rfl ?_
                    refine z_bipush C 92 dX7_field_90 (by decide) rfl ?_
                    refine z_icmp_ne C 98 95 dX7_field_92 (by decide) (hw.r _ _ rfl) ⟨by decide, by decide⟩ rfl (fun c20 => ?_) (fun c20 => ?_)
                    · skip
                      refine z_aload_n C 99 0 dX7_field_98 rfl rfl ?_
                      refine z_dup C 100 dX7_field_99 rfl rfl ?_
                      refine m_geti C hκ 103 12 (by decide) rfl q2007 rfl dX7_field_100 rfl ?_
                      refine z_iconst C 104 dX7_field_103 rfl ?_
                      refine z_iadd C 105 dX7_field_104 rfl ?_
                      obtain ⟨w7, ew7⟩ : ∃ wz, mset w 12 (0) ((w 12 0) + (1)) = wz := ⟨_, rfl⟩
                      have hw7 : mWF w7 := ew7 ▸ hw.set ⟨by omega, by omega⟩ rfl
                      refine m_puti (w' := w7) C hκ 108 12 (by decide) (by decide) rfl q2007 rfl rfl rfl rfl dX7_field_105 rfl ew7 ?_
                      have z1 : w7 11 0 = w 11 0 := by rw [← ew7]; exact mset_k (by decide)
                      refine z_aload_n C 109 0 dX7_field_108 rfl rfl ?_
                      refine z_iload_n C 110 1 dX7_field_109 rfl rfl ?_
                      refine z_iload_n C 111 2 dX7_field_110 rfl rfl ?_
                      refine z_iload_n C 112 3 dX7_field_111 rfl rfl ?_
                      refine z_iload C 114 4 dX7_field_112 rfl rfl ?_
                      refine z_iconst C 115 dX7_field_114 rfl ?_
                      refine z_callVF (n' := 0) (k' := 0) (As := [.int (iI (t)), .int (iI (n)), .int (iI (k)), .int (iI (y)), .int (iI (1))]) (rest := []) C hκ hκl 118 (k7_declare hD hw7 (t) (n) (k) (y) (true) r_t r_n r_k r_y (by omega)) dX7_field_115 q2238 q2240 qs48 q97 q2241 znX7_declare (Nat.le_of_ble_eq_true rfl) (Nat.le_of_ble_eq_true rfl) (Nat.le_of_ble_eq_true rfl) (Nat.le_of_ble_eq_true rfl) mrec rfl rfl (Nat.le_of_ble_eq_true rfl) rfl rfl rfl ?_
                      obtain ⟨w8, ew8⟩ : ∃ wz, dW w7 (t) (n) (k) (y) (true) = wz := ⟨_, rfl⟩
                      rw [ew8]
                      have hw8 : mWF w8 := ew8 ▸ (dW_wf hw7 r_t r_n r_k r_y (by omega))
                      exact z_iret C dX7_field_118 rfl (Nat.le_of_ble_eq_true rfl) (Nat.le_of_ble_eq_true rfl) ⟨congrArg (fun z => some (Value.int (iI z))) (by rw [z1]; unfold fiI; rw [if_neg (by simp_all), if_neg (by simp_all), if_neg (by omega)]), (congrArg (fun w' => mP θ am ar w' N) (by clear C hκ hκl hS hB hB1 hB2 hB3 hB4 hB5 hB6 hC hD hw f4a f4b f4c f4d f4e f4f f4g f4h; unfold fiW fiO; rw [if_pos (by simp_all)]; subst_vars; rfl))⟩
                    · skip
                      refine z_bipush C 97 dX7_field_95 (by decide) rfl ?_
                      exact z_iret C dX7_field_97 rfl (Nat.le_of_ble_eq_true rfl) (Nat.le_of_ble_eq_true rfl) ⟨congrArg (fun z => some (Value.int (iI z))) (by unfold fiI; rw [if_neg (by simp_all), if_neg (by simp_all), if_pos (by omega)]), (congrArg (fun w' => mP θ am ar w' N) (by clear C hκ hκl hS hB hB1 hB2 hB3 hB4 hB5 hB6 hC hD hw f4a f4b f4c f4d f4e f4f f4g f4h; unfold fiW fiO; rw [if_neg]; simp_all))⟩
                  · skip
                    refine z_bipush C 85 dX7_field_83 (by decide) rfl ?_
                    exact z_iret C dX7_field_85 rfl (Nat.le_of_ble_eq_true rfl) (Nat.le_of_ble_eq_true rfl) ⟨congrArg (fun z => some (Value.int (iI z))) (by clear C hκ hκl hS hB hB1 hB2 hB3 hB4 hB5 hB6 hC hD hw f4a f4b f4c f4d f4e f4f f4g f4h; unfold fiI; rw [if_neg (by simp_all), if_pos]; unfold fiN; simp_all), (congrArg (fun w' => mP θ am ar w' N) (by clear C hκ hκl hS hB hB1 hB2 hB3 hB4 hB5 hB6 hC hD hw f4a f4b f4c f4d f4e f4f f4g f4h; unfold fiW fiO; rw [if_neg]; unfold fiN; first | (simp_all; done) | grind))⟩
            · skip
              have c14b : ¬ (0 ≤ (y) ∧ (y) < w 0 0) := of_decide_eq_false c14
              refine z_iconst C 58 dX7_field_57 rfl ?_
              exact z_iret C dX7_field_58 rfl (Nat.le_of_ble_eq_true rfl) (Nat.le_of_ble_eq_true rfl) ⟨congrArg (fun z => some (Value.int (iI z))) (by clear C hκ hκl hS hB hB1 hB2 hB3 hB4 hB5 hB6 hC hD hw f4a f4b f4c f4d f4e f4f f4g f4h; unfold fiI; rw [if_pos]; unfold fiB; first | (simp_all; done) | grind), (congrArg (fun w' => mP θ am ar w' N) (by clear C hκ hκl hS hB hB1 hB2 hB3 hB4 hB5 hB6 hC hD hw f4a f4b f4c f4d f4e f4f f4g f4h; unfold fiW fiO; rw [if_neg]; unfold fiB; first | (simp_all; done) | grind))⟩
set_option maxRecDepth 100000 in
theorem k7_mayBe {l : Launch} {θ : zTh} {N : zMap} {am : Nat} {ar : Nat → Nat} {w : mW} (hD : mDis am ar) (hw : mWF w) (t : Int) (k : Int) (r_t : inR t) (r_k : inR k) (ht : 0 ≤ t ∧ t < 60) : ZF θ l yX7_mayBe cX7_mayBe 4 (some .boolean) ⟨1, 0, 0, 25⟩ [.ref (am), .int (iI (t)), .int (iI (k))] (mP θ am ar w N) (some (.int (iI (bI (mbeB w t k))))) (mP θ am ar w N) := by
  refine z_start (own := RX7) (nm := "mayBe") pnX7 rfl rfl (Nat.le_of_ble_eq_true rfl) ?_
  intro κ hκ hκl C
  change Z κ (mP θ am ar w N) 0 0 0 [(0, .ref (am)), (1, .int (iI (t))), (2, .int (iI (k)))] []
  refine z_iload_n C 1 2 dX7_mayBe_0 rfl rfl ?_
  refine z_i2l C 2 dX7_mayBe_1 r_k rfl ?_
  refine z_lconst (x := 0) C 3 dX7_mayBe_2 rfl rfl ?_
  refine z_ldc2 (z := 31) C 6 dX7_mayBe_3 q2254 (by decide) rfl ?_
  refine z_callSF (n' := 0) (k' := 0) (As := [.long (lI (k)), .long (lI (0)), .long (lI (31))]) (rest := []) C hκ hκl 9 (k7_in (k) (0) (31) (inR_L r_k) ⟨by decide, by decide⟩ ⟨by decide, by decide⟩) dX7_mayBe_6 q2164 q2165 q97 q2166 znX7_in (Nat.le_of_ble_eq_true rfl) (Nat.le_of_ble_eq_true rfl) (Nat.le_of_ble_eq_true rfl) (Nat.le_of_ble_eq_true rfl) rfl (Nat.le_of_ble_eq_true rfl) rfl rfl rfl ?_
  refine z_ifB_ne C 14 12 dX7_mayBe_9 (by decide) rfl (fun c1 => ?_) (fun c1 => ?_)
  · skip
    have c1b : (((0) ≤ (k) ∧ (k) ≤ (31))) := of_decide_eq_true c1
    refine z_iload_n C 15 2 dX7_mayBe_14 rfl rfl ?_
    refine z_iconst C 16 dX7_mayBe_15 rfl ?_
    refine z_iand C 17 dX7_mayBe_16 rfl ?_
    refine z_istore_n (lv' := [(0, .ref (am)), (1, .int (iI (t))), (2, .int (iI (k))), (3, .int (iI (zand (k) (3))))]) C 18 [1, 2, 3, 0] dX7_mayBe_17 (by decide) rfl rfl ?_
    refine z_iload_n C 19 2 dX7_mayBe_18 rfl rfl ?_
    refine z_bipush C 21 dX7_mayBe_19 (by decide) rfl ?_
    refine z_iand C 22 dX7_mayBe_21 rfl ?_
    refine z_if_eq C 49 25 dX7_mayBe_22 (by decide) (inR_zand _ _) rfl (fun c2 => ?_) (fun c2 => ?_)
    · skip
      refine z_aload_n C 50 0 dX7_mayBe_49 rfl rfl ?_
      refine m_geta C hκ 53 1 (by decide) rfl q1996 rfl dX7_mayBe_50 rfl ?_
      refine z_iload_n C 54 1 dX7_mayBe_53 rfl rfl ?_
      refine m_iald (len := 60) C hκ hD 55 1 (by decide) rfl rfl (by omega) (by omega) dX7_mayBe_54 rfl ?_
      refine z_iconst C 56 dX7_mayBe_55 rfl ?_
      refine z_icmp_ne C 76 59 dX7_mayBe_56 (by decide) (hw.r _ _ rfl) ⟨by decide, by decide⟩ rfl (fun c3 => ?_) (fun c3 => ?_)
      · skip
        refine z_iconst C 77 dX7_mayBe_76 rfl ?_
        refine z_goto C 81 dX7_mayBe_77 (by decide) ?_
        refine z_as (st' := [.int (iI (bI (true)))]) rfl rfl rfl ?_
        exact z_iret C dX7_mayBe_81 (bI_nar _) (Nat.le_of_ble_eq_true rfl) (Nat.le_of_ble_eq_true rfl) ⟨congrArg (fun b => some (Value.int (iI (bI b)))) (by clear C hκ hκl ; unfold mbeB; first | (simp_all; done) | grind), rfl⟩
      · skip
        refine z_iload_n C 60 3 dX7_mayBe_59 rfl rfl ?_
        refine z_iconst C 61 dX7_mayBe_60 rfl ?_
        refine z_icmp_eq C 69 64 dX7_mayBe_61 (by decide) (inR_zand _ _) ⟨by decide, by decide⟩ rfl (fun c4 => ?_) (fun c4 => ?_)
        · skip
          refine z_iload_n C 70 2 dX7_mayBe_69 rfl rfl ?_
          refine z_bipush C 72 dX7_mayBe_70 (by decide) rfl ?_
          refine z_iand C 73 dX7_mayBe_72 rfl ?_
          refine z_if_ne C 80 76 dX7_mayBe_73 (by decide) (inR_zand _ _) rfl (fun c5 => ?_) (fun c5 => ?_)
          · skip
            refine z_iconst C 81 dX7_mayBe_80 rfl ?_
            refine z_as (st' := [.int (iI (bI (false)))]) rfl rfl rfl ?_
            exact z_iret C dX7_mayBe_81 (bI_nar _) (Nat.le_of_ble_eq_true rfl) (Nat.le_of_ble_eq_true rfl) ⟨congrArg (fun b => some (Value.int (iI (bI b)))) (by clear C hκ hκl ; unfold mbeB; first | (simp_all; done) | grind), rfl⟩
          · skip
            refine z_iconst C 77 dX7_mayBe_76 rfl ?_
            refine z_goto C 81 dX7_mayBe_77 (by decide) ?_
            refine z_as (st' := [.int (iI (bI (true)))]) rfl rfl rfl ?_
            exact z_iret C dX7_mayBe_81 (bI_nar _) (Nat.le_of_ble_eq_true rfl) (Nat.le_of_ble_eq_true rfl) ⟨congrArg (fun b => some (Value.int (iI (bI b)))) (by clear C hκ hκl ; unfold mbeB; first | (simp_all; done) | grind), rfl⟩
        · skip
          refine z_iload_n C 65 3 dX7_mayBe_64 rfl rfl ?_
          refine z_iconst C 66 dX7_mayBe_65 rfl ?_
          refine z_icmp_ne C 80 69 dX7_mayBe_66 (by decide) (inR_zand _ _) ⟨by decide, by decide⟩ rfl (fun c6 => ?_) (fun c6 => ?_)
          · skip
            refine z_iconst C 81 dX7_mayBe_80 rfl ?_
            refine z_as (st' := [.int (iI (bI (false)))]) rfl rfl rfl ?_
            exact z_iret C dX7_mayBe_81 (bI_nar _) (Nat.le_of_ble_eq_true rfl) (Nat.le_of_ble_eq_true rfl) ⟨congrArg (fun b => some (Value.int (iI (bI b)))) (by clear C hκ hκl ; unfold mbeB; first | (simp_all; done) | grind), rfl⟩
          · skip
            refine z_iload_n C 70 2 dX7_mayBe_69 rfl rfl ?_
            refine z_bipush C 72 dX7_mayBe_70 (by decide) rfl ?_
            refine z_iand C 73 dX7_mayBe_72 rfl ?_
            refine z_if_ne C 80 76 dX7_mayBe_73 (by decide) (inR_zand _ _) rfl (fun c7 => ?_) (fun c7 => ?_)
            · skip
              refine z_iconst C 81 dX7_mayBe_80 rfl ?_
              refine z_as (st' := [.int (iI (bI (false)))]) rfl rfl rfl ?_
              exact z_iret C dX7_mayBe_81 (bI_nar _) (Nat.le_of_ble_eq_true rfl) (Nat.le_of_ble_eq_true rfl) ⟨congrArg (fun b => some (Value.int (iI (bI b)))) (by clear C hκ hκl ; unfold mbeB; first | (simp_all; done) | grind), rfl⟩
            · skip
              refine z_iconst C 77 dX7_mayBe_76 rfl ?_
              refine z_goto C 81 dX7_mayBe_77 (by decide) ?_
              refine z_as (st' := [.int (iI (bI (true)))]) rfl rfl rfl ?_
              exact z_iret C dX7_mayBe_81 (bI_nar _) (Nat.le_of_ble_eq_true rfl) (Nat.le_of_ble_eq_true rfl) ⟨congrArg (fun b => some (Value.int (iI (bI b)))) (by clear C hκ hκl ; unfold mbeB; first | (simp_all; done) | grind), rfl⟩
    · skip
      refine z_aload_n C 26 0 dX7_mayBe_25 rfl rfl ?_
      refine m_geta C hκ 29 1 (by decide) rfl q1996 rfl dX7_mayBe_26 rfl ?_
      refine z_iload_n C 30 1 dX7_mayBe_29 rfl rfl ?_
      refine m_iald (len := 60) C hκ hD 31 1 (by decide) rfl rfl (by omega) (by omega) dX7_mayBe_30 rfl ?_
      refine z_iconst C 32 dX7_mayBe_31 rfl ?_
      refine z_icmp_eq C 47 35 dX7_mayBe_32 (by decide) (hw.r _ _ rfl) ⟨by decide, by decide⟩ rfl (fun c8 => ?_) (fun c8 => ?_)
      · skip
        refine z_iconst C 48 dX7_mayBe_47 rfl ?_
        refine z_as (st' := [.int (iI (bI (false)))]) rfl rfl rfl ?_
        exact z_iret C dX7_mayBe_48 (bI_nar _) (Nat.le_of_ble_eq_true rfl) (Nat.le_of_ble_eq_true rfl) ⟨congrArg (fun b => some (Value.int (iI (bI b)))) (by clear C hκ hκl ; unfold mbeB; first | (simp_all; done) | grind), rfl⟩
      · skip
        refine z_iload_n C 36 2 dX7_mayBe_35 rfl rfl ?_
        refine z_bipush C 38 dX7_mayBe_36 (by decide) rfl ?_
        refine z_iand C 39 dX7_mayBe_38 rfl ?_
        refine z_if_ne C 47 42 dX7_mayBe_39 (by decide) (inR_zand _ _) rfl (fun c9 => ?_) (fun c9 => ?_)
        · skip
          refine z_iconst C 48 dX7_mayBe_47 rfl ?_
          refine z_as (st' := [.int (iI (bI (false)))]) rfl rfl rfl ?_
          exact z_iret C dX7_mayBe_48 (bI_nar _) (Nat.le_of_ble_eq_true rfl) (Nat.le_of_ble_eq_true rfl) ⟨congrArg (fun b => some (Value.int (iI (bI b)))) (by clear C hκ hκl ; unfold mbeB; first | (simp_all; done) | grind), rfl⟩
        · skip
          refine z_iload_n C 43 3 dX7_mayBe_42 rfl rfl ?_
          refine z_iconst C 44 dX7_mayBe_43 rfl ?_
          refine z_icmp_ne C 49 47 dX7_mayBe_44 (by decide) (inR_zand _ _) ⟨by decide, by decide⟩ rfl (fun c10 => ?_) (fun c10 => ?_)
          · skip
            refine z_aload_n C 50 0 dX7_mayBe_49 rfl rfl ?_
            refine m_geta C hκ 53 1 (by decide) rfl q1996 rfl dX7_mayBe_50 rfl ?_
            refine z_iload_n C 54 1 dX7_mayBe_53 rfl rfl ?_
            refine m_iald (len := 60) C hκ hD 55 1 (by decide) rfl rfl (by omega) (by omega) dX7_mayBe_54 rfl ?_
            refine z_iconst C 56 dX7_mayBe_55 rfl ?_
            refine z_icmp_ne C 76 59 dX7_mayBe_56 (by decide) (hw.r _ _ rfl) ⟨by decide, by decide⟩ rfl (fun c11 => ?_) (fun c11 => ?_)
            · skip
              refine z_iconst C 77 dX7_mayBe_76 rfl ?_
              refine z_goto C 81 dX7_mayBe_77 (by decide) ?_
              refine z_as (st' := [.int (iI (bI (true)))]) rfl rfl rfl ?_
              exact z_iret C dX7_mayBe_81 (bI_nar _) (Nat.le_of_ble_eq_true rfl) (Nat.le_of_ble_eq_true rfl) ⟨congrArg (fun b => some (Value.int (iI (bI b)))) (by clear C hκ hκl ; unfold mbeB; first | (simp_all; done) | grind), rfl⟩
            · skip
              refine z_iload_n C 60 3 dX7_mayBe_59 rfl rfl ?_
              refine z_iconst C 61 dX7_mayBe_60 rfl ?_
              refine z_icmp_eq C 69 64 dX7_mayBe_61 (by decide) (inR_zand _ _) ⟨by decide, by decide⟩ rfl (fun c12 => ?_) (fun c12 => ?_)
              · skip
                refine z_iload_n C 70 2 dX7_mayBe_69 rfl rfl ?_
                refine z_bipush C 72 dX7_mayBe_70 (by decide) rfl ?_
                refine z_iand C 73 dX7_mayBe_72 rfl ?_
                refine z_if_ne C 80 76 dX7_mayBe_73 (by decide) (inR_zand _ _) rfl (fun c13 => ?_) (fun c13 => ?_)
                · skip
                  refine z_iconst C 81 dX7_mayBe_80 rfl ?_
                  refine z_as (st' := [.int (iI (bI (false)))]) rfl rfl rfl ?_
                  exact z_iret C dX7_mayBe_81 (bI_nar _) (Nat.le_of_ble_eq_true rfl) (Nat.le_of_ble_eq_true rfl) ⟨congrArg (fun b => some (Value.int (iI (bI b)))) (by clear C hκ hκl ; unfold mbeB; first | (simp_all; done) | grind), rfl⟩
                · skip
                  refine z_iconst C 77 dX7_mayBe_76 rfl ?_
                  refine z_goto C 81 dX7_mayBe_77 (by decide) ?_
                  refine z_as (st' := [.int (iI (bI (true)))]) rfl rfl rfl ?_
                  exact z_iret C dX7_mayBe_81 (bI_nar _) (Nat.le_of_ble_eq_true rfl) (Nat.le_of_ble_eq_true rfl) ⟨congrArg (fun b => some (Value.int (iI (bI b)))) (by clear C hκ hκl ; unfold mbeB; first | (simp_all; done) | grind), rfl⟩
              · skip
                refine z_iload_n C 65 3 dX7_mayBe_64 rfl rfl ?_
                refine z_iconst C 66 dX7_mayBe_65 rfl ?_
                refine z_icmp_ne C 80 69 dX7_mayBe_66 (by decide) (inR_zand _ _) ⟨by decide, by decide⟩ rfl (fun c14 => ?_) (fun c14 => ?_)
                · skip
                  refine z_iconst C 81 dX7_mayBe_80 rfl ?_
                  refine z_as (st' := [.int (iI (bI (false)))]) rfl rfl rfl ?_
                  exact z_iret C dX7_mayBe_81 (bI_nar _) (Nat.le_of_ble_eq_true rfl) (Nat.le_of_ble_eq_true rfl) ⟨congrArg (fun b => some (Value.int (iI (bI b)))) (by clear C hκ hκl ; unfold mbeB; first | (simp_all; done) | grind), rfl⟩
                · skip
                  refine z_iload_n C 70 2 dX7_mayBe_69 rfl rfl ?_
                  refine z_bipush C 72 dX7_mayBe_70 (by decide) rfl ?_
                  refine z_iand C 73 dX7_mayBe_72 rfl ?_
                  refine z_if_ne C 80 76 dX7_mayBe_73 (by decide) (inR_zand _ _) rfl (fun c15 => ?_) (fun c15 => ?_)
                  · skip
                    refine z_iconst C 81 dX7_mayBe_80 rfl ?_
                    refine z_as (st' := [.int (iI (bI (false)))]) rfl rfl rfl ?_
                    exact z_iret C dX7_mayBe_81 (bI_nar _) (Nat.le_of_ble_eq_true rfl) (Nat.le_of_ble_eq_true rfl) ⟨congrArg (fun b => some (Value.int (iI (bI b)))) (by clear C hκ hκl ; unfold mbeB; first | (simp_all; done) | grind), rfl⟩
                  · skip
                    refine z_iconst C 77 dX7_mayBe_76 rfl ?_
                    refine z_goto C 81 dX7_mayBe_77 (by decide) ?_
                    refine z_as (st' := [.int (iI (bI (true)))]) rfl rfl rfl ?_
                    exact z_iret C dX7_mayBe_81 (bI_nar _) (Nat.le_of_ble_eq_true rfl) (Nat.le_of_ble_eq_true rfl) ⟨congrArg (fun b => some (Value.int (iI (bI b)))) (by clear C hκ hκl ; unfold mbeB; first | (simp_all; done) | grind), rfl⟩
          · skip
            refine z_iconst C 48 dX7_mayBe_47 rfl ?_
            refine z_as (st' := [.int (iI (bI (false)))]) rfl rfl rfl ?_
            exact z_iret C dX7_mayBe_48 (bI_nar _) (Nat.le_of_ble_eq_true rfl) (Nat.le_of_ble_eq_true rfl) ⟨congrArg (fun b => some (Value.int (iI (bI b)))) (by clear C hκ hκl ; unfold mbeB; first | (simp_all; done) | grind), rfl⟩
  · skip
    have c1b : ¬ (((0) ≤ (k) ∧ (k) ≤ (31))) := of_decide_eq_false c1
    refine z_iconst C 13 dX7_mayBe_12 rfl ?_
    refine z_as (st' := [.int (iI (bI (false)))]) rfl rfl rfl ?_
    exact z_iret C dX7_mayBe_13 (bI_nar _) (Nat.le_of_ble_eq_true rfl) (Nat.le_of_ble_eq_true rfl) ⟨congrArg (fun b => some (Value.int (iI (bI b)))) (by clear C hκ hκl ; unfold mbeB; first | (simp_all; done) | grind), rfl⟩
set_option maxRecDepth 100000 in
theorem k7_method {l : Launch} {θ : zTh} {N : zMap} {am : Nat} {ar : Nat → Nat} {w : mW} (hD : mDis am ar) (hw : mWF w) (t : Int) (n : Int) (k : Int) (y : Int) (c : Int) (p : Int) (q : Int) (r : Int) (r_t : inR t) (r_n : inR n) (r_k : inR k) (r_y : inR y) (r_c : inR c) (r_p : inR p) (r_q : inR q) (r_r : inR r) (hS : mS w)  : ZF θ l yX7_method cX7_method 12 (some .int) ⟨4, 0, 0, 88⟩ [.ref (am), .int (iI (t)), .int (iI (n)), .int (iI (k)), .int (iI (y)), .int (iI (c)), .int (iI (p)), .int (iI (q)), .int (iI (r))] (mP θ am ar w N) (some (.int (iI (meI w t n k y c p q r)))) (mP θ am ar (if meO w t n k y c p q r then meW w t n k y c p q r else w) N) := by
  refine z_start (own := RX7) (nm := "method") pnX7 rfl rfl (Nat.le_of_ble_eq_true rfl) ?_
  intro κ hκ hκl C
  change Z κ (mP θ am ar w N) 0 0 0 [(0, .ref (am)), (1, .int (iI (t))), (2, .int (iI (n))), (3, .int (iI (k))), (4, .int (iI (y))), (5, .int (iI (c))), (6, .int (iI (p))), (7, .int (iI (q))), (8, .int (iI (r)))] []
  have hB := hS.B
  obtain ⟨hB1, hB2, hB3, hB4, hB5, hB6⟩ := hS.B
  have hC := hS.C
  have L105_1 : ∀ (fu : Nat)  (hA : meA w t n k y c = true) (hB2' : meB w c p q r = true) (hme : 0 < fu), Z κ (mP θ am ar w N) 0 0 105 [(0, .ref (am)), (1, .int (iI (t))), (2, .int (iI (n))), (3, .int (iI (k))), (4, .int (iI (y))), (5, .int (iI (c))), (6, .int (iI (p))), (7, .int (iI (q))), (8, .int (iI (r)))] [] := by
    intro fu
    induction fu with
    | zero => intro hA hB2' hme; exact absurd hme (Nat.not_lt_zero _)
    | succ fu ih2 =>
      intro hA hB2' hme
      have hA' : (0 ≤ c ∧ c ≤ 3) ∧ -1 ≤ y := by clear C hκ hκl; unfold meA at hA; simp [tyB] at hA; omega
      refine z_iconst C 106 dX7_method_105 rfl ?_
      refine z_istore (lv' := [(0, .ref (am)), (1, .int (iI (t))), (2, .int (iI (n))), (3, .int (iI (k))), (4, .int (iI (y))), (5, .int (iI (c))), (6, .int (iI (p))), (7, .int (iI (q))), (8, .int (iI (r))), (9, .int (iI (0)))]) C 108 [1, 2, 3, 4, 5, 6, 7, 8, 9, 0] dX7_method_106 (by decide) rfl rfl ?_
      refine z_iconst C 109 dX7_method_108 rfl ?_
      refine z_istore (lv' := [(0, .ref (am)), (1, .int (iI (t))), (2, .int (iI (n))), (3, .int (iI (k))), (4, .int (iI (y))), (5, .int (iI (c))), (6, .int (iI (p))), (7, .int (iI (q))), (8, .int (iI (r))), (9, .int (iI (0))), (10, .int (iI (0)))]) C 111 [1, 2, 3, 4, 5, 6, 7, 8, 9, 10, 0] dX7_method_109 (by decide) rfl rfl ?_
      have L111_3 : ∀ (fu : Nat) (j : Nat) (b : Bool) (hj : (j : Int) ≤ w 11 0) (hb : b = anyN (meP w t n y c p q r) j) (hme : (w 11 0).toNat - j < fu), Z κ (mP θ am ar w N) 0 0 111 [(0, .ref (am)), (1, .int (iI (t))), (2, .int (iI (n))), (3, .int (iI (k))), (4, .int (iI (y))), (5, .int (iI (c))), (6, .int (iI (p))), (7, .int (iI (q))), (8, .int (iI (r))), (9, .int (iI (bI (b)))), (10, .int (iI ((j : Int))))] [] := by
        intro fu
        induction fu with
        | zero => intro j b hj hb hme; exact absurd hme (Nat.not_lt_zero _)
        | succ fu ih4 =>
          intro j b hj hb hme
          refine z_iload C 113 10 dX7_method_111 rfl rfl ?_
          refine z_aload_n C 114 0 dX7_method_113 rfl rfl ?_
          refine m_geti C hκ 117 11 (by decide) rfl q2006 rfl dX7_method_114 rfl ?_
          refine z_icmp_ge C 282 120 dX7_method_117 (by decide) ⟨by omega, by omega⟩ (hw.r _ _ rfl) rfl (fun c5 => ?_) (fun c5 => ?_)
          · skip
            have hL : meL w t n y c p q r = b := by unfold meL; rw [hb, show (w 11 0).toNat = j by omega]
            refine z_iload C 284 9 dX7_method_282 rfl rfl ?_
            refine z_ifB_eq C 290 287 dX7_method_284 (by decide) rfl (fun c6 => ?_) (fun c6 => ?_)
            · skip
              refine z_aload_n C 291 0 dX7_method_290 rfl rfl ?_
              refine m_geti C hκ 294 11 (by decide) rfl q2006 rfl dX7_method_291 rfl ?_
              refine z_bipush C 296 dX7_method_294 (by decide) rfl ?_
              refine z_icmp_ne C 302 299 dX7_method_296 (by decide) (hw.r _ _ rfl) ⟨by decide, by decide⟩ rfl (fun c7 => ?_) (fun c7 => ?_)
              · skip
                refine z_aload_n C 303 0 dX7_method_302 rfl rfl ?_
                refine z_iload_n C 304 1 dX7_method_303 rfl rfl ?_
                refine z_iload_n C 305 2 dX7_method_304 rfl rfl ?_
                refine z_iload_n C 306 3 dX7_method_305 rfl rfl ?_
                refine z_iload C 308 4 dX7_method_306 rfl rfl ?_
                refine z_iconst C 309 dX7_method_308 rfl ?_
                refine z_callVF (n' := 0) (k' := 0) (As := [.int (iI (t)), .int (iI (n)), .int (iI (k)), .int (iI (y)), .int (iI (0))]) (rest := []) C hκ hκl 312 (k7_declare hD hw (t) (n) (k) (y) (false) r_t r_n r_k r_y (by omega)) dX7_method_309 q2238 q2240 qs48 q97 q2241 znX7_declare (Nat.le_of_ble_eq_true rfl) (Nat.le_of_ble_eq_true rfl) (Nat.le_of_ble_eq_true rfl) (Nat.le_of_ble_eq_true rfl) mrec rfl rfl (Nat.le_of_ble_eq_true rfl) rfl rfl rfl ?_
                obtain ⟨w1, ew1⟩ : ∃ wz, dW w (t) (n) (k) (y) (false) = wz := ⟨_, rfl⟩
                rw [ew1]
                have hw1 : mWF w1 := ew1 ▸ (dW_wf hw r_t r_n r_k r_y (by omega))
                refine z_istore (lv' := [(0, .ref (am)), (1, .int (iI (t))), (2, .int (iI (n))), (3, .int (iI (k))), (4, .int (iI (y))), (5, .int (iI (c))), (6, .int (iI (p))), (7, .int (iI (q))), (8, .int (iI (r))), (9, .int (iI (bI (b)))), (10, .int (iI (w 11 0)))]) C 314 [1, 2, 3, 4, 5, 6, 7, 8, 9, 10, 0] dX7_method_312 (by decide) rfl rfl ?_
                refine z_aload_n C 315 0 dX7_method_314 rfl rfl ?_
                refine m_geta C hκ 318 18 (by decide) rfl q2013 rfl dX7_method_315 rfl ?_
                refine z_iload C 320 10 dX7_method_318 rfl rfl ?_
                refine z_iload C 322 5 dX7_method_320 rfl rfl ?_
                obtain ⟨w2, ew2⟩ : ∃ wz, mset w1 18 (w 11 0) (c) = wz := ⟨_, rfl⟩
                have hw2 : mWF w2 := ew2 ▸ hw1.set r_c rfl
                refine m_iast (len := 100) (w' := w2) C hκ hD 323 18 (by decide) rfl rfl (by omega) (by omega) dX7_method_322 rfl ew2 ?_
                refine z_aload_n C 324 0 dX7_method_323 rfl rfl ?_
                refine m_geta C hκ 327 19 (by decide) rfl q2014 rfl dX7_method_324 rfl ?_
                refine z_iconst C 328 dX7_method_327 rfl ?_
                refine z_iload C 330 10 dX7_method_328 rfl rfl ?_
                refine z_imul C 331 dX7_method_330 rfl ?_
                refine z_iload C 333 6 dX7_method_331 rfl rfl ?_
                obtain ⟨w3, ew3⟩ : ∃ wz, mset w2 19 ((3) * (w 11 0)) (p) = wz := ⟨_, rfl⟩
                have hw3 : mWF w3 := ew3 ▸ hw2.set r_p rfl
                refine m_iast (len := 300) (w' := w3) C hκ hD 334 19 (by decide) rfl rfl (by omega) (by omega) dX7_method_333 rfl ew3 ?_
                refine z_aload_n C 335 0 dX7_method_334 rfl rfl ?_
                refine m_geta C hκ 338 19 (by decide) rfl q2014 rfl dX7_method_335 rfl ?_
                refine z_iconst C 339 dX7_method_338 rfl ?_
                refine z_iload C 341 10 dX7_method_339 rfl rfl ?_
                refine z_imul C 342 dX7_method_341 rfl ?_
                refine z_iconst C 343 dX7_method_342 rfl ?_
                refine z_iadd C 344 dX7_method_343 rfl ?_
                refine z_iload C 346 7 dX7_method_344 rfl rfl ?_
                obtain ⟨w4, ew4⟩ : ∃ wz, mset w3 19 (((3) * (w 11 0)) + (1)) (q) = wz := ⟨_, rfl⟩
                have hw4 : mWF w4 := ew4 ▸ hw3.set r_q rfl
                refine m_iast (len := 300) (w' := w4) C hκ hD 347 19 (by decide) rfl rfl (by omega) (by omega) dX7_method_346 rfl ew4 ?_
                refine z_aload_n C 348 0 dX7_method_347 rfl rfl ?_
                refine m_geta C hκ 351 19 (by decide) rfl q2014 rfl dX7_method_348 rfl ?_
                refine z_iconst C 352 dX7_method_351 rfl ?_
                refine z_iload C 354 10 dX7_method_352 rfl rfl ?_
                refine z_imul C 355 dX7_method_354 rfl ?_
                refine z_iconst C 356 dX7_method_355 rfl ?_
                refine z_iadd C 357 dX7_method_356 rfl ?_
                refine z_iload C 359 8 dX7_method_357 rfl rfl ?_
                obtain ⟨w5, ew5⟩ : ∃ wz, mset w4 19 (((3) * (w 11 0)) + (2)) (r) = wz := ⟨_, rfl⟩
                have hw5 : mWF w5 := ew5 ▸ hw4.set r_r rfl
                refine m_iast (len := 300) (w' := w5) C hκ hD 360 19 (by decide) rfl rfl (by omega) (by omega) dX7_method_359 rfl ew5 ?_
                refine z_iload C 362 10 dX7_method_360 rfl rfl ?_
                exact z_iret C dX7_method_362 rfl (Nat.le_of_ble_eq_true rfl) (Nat.le_of_ble_eq_true rfl) ⟨congrArg (fun z => some (Value.int (iI z))) (by clear C hκ hκl hS hB hB1 hB2 hB3 hB4 hB5 hB6 hC hD hw ih2 hme ih4; unfold meI; simp_all), (congrArg (fun w' => mP θ am ar w' N) (by clear C hκ hκl hS hB hB1 hB2 hB3 hB4 hB5 hB6 hC hD hw ih2 hme ih4; rw [if_pos (by unfold meO; simp_all)]; unfold meW; subst_vars; rfl))⟩
              · skip
                refine z_bipush C 301 dX7_method_299 (by decide) rfl ?_
                exact z_iret C dX7_method_301 rfl (Nat.le_of_ble_eq_true rfl) (Nat.le_of_ble_eq_true rfl) ⟨congrArg (fun z => some (Value.int (iI z))) (by clear C hκ hκl hS hB hB1 hB2 hB3 hB4 hB5 hB6 hC hD hw ih2 hme ih4; unfold meI; simp_all), (congrArg (fun w' => mP θ am ar w' N) (by clear C hκ hκl hS hB hB1 hB2 hB3 hB4 hB5 hB6 hC hD hw ih2 hme ih4; rw [if_neg]; unfold meO; simp_all))⟩
            · skip
              refine z_bipush C 289 dX7_method_287 (by decide) rfl ?_
              exact z_iret C dX7_method_289 rfl (Nat.le_of_ble_eq_true rfl) (Nat.le_of_ble_eq_true rfl) ⟨congrArg (fun z => some (Value.int (iI z))) (by clear C hκ hκl hS hB hB1 hB2 hB3 hB4 hB5 hB6 hC hD hw ih2 hme ih4; unfold meI; simp_all), (congrArg (fun w' => mP θ am ar w' N) (by clear C hκ hκl hS hB hB1 hB2 hB3 hB4 hB5 hB6 hC hD hw ih2 hme ih4; rw [if_neg]; unfold meO; simp_all))⟩
          · skip
            have L259_8 : ∀ (fu : Nat) (e : Bool) (hq : meP w t n y c p q r j = e) (hme : 0 < fu), Z κ (mP θ am ar w N) 0 0 259 [(0, .ref (am)), (1, .int (iI (t))), (2, .int (iI (n))), (3, .int (iI (k))), (4, .int (iI (y))), (5, .int (iI (c))), (6, .int (iI (p))), (7, .int (iI (q))), (8, .int (iI (r))), (9, .int (iI (bI (b)))), (10, .int (iI ((j : Int)))), (11, .int (iI (bI (e))))] [] := by
              intro fu
              induction fu with
              | zero => intro e hq hme; exact absurd hme (Nat.not_lt_zero _)
              | succ fu ih9 =>
                intro e hq hme
                refine z_iload C 261 9 dX7_method_259 rfl rfl ?_
                refine z_ifB_ne C 269 264 dX7_method_261 (by decide) rfl (fun c10 => ?_) (fun c10 => ?_)
                · skip
                  refine z_iconst C 270 dX7_method_269 rfl ?_
                  refine z_goto C 274 dX7_method_270 (by decide) ?_
                  refine z_istore (lv' := [(0, .ref (am)), (1, .int (iI (t))), (2, .int (iI (n))), (3, .int (iI (k))), (4, .int (iI (y))), (5, .int (iI (c))), (6, .int (iI (p))), (7, .int (iI (q))), (8, .int (iI (r))), (9, .int (iI (1))), (10, .int (iI ((j : Int)))), (11, .int (iI (bI (e))))]) C 276 [1, 2, 3, 4, 5, 6, 7, 8, 9, 0, 10, 11] dX7_method_274 (by decide) rfl rfl ?_
                  refine z_iinc (lv' := [(0, .ref (am)), (1, .int (iI (t))), (2, .int (iI (n))), (3, .int (iI (k))), (4, .int (iI (y))), (5, .int (iI (c))), (6, .int (iI (p))), (7, .int (iI (q))), (8, .int (iI (r))), (9, .int (iI (1))), (10, .int (iI (((j : Int)) + 1))), (11, .int (iI (bI (e))))]) C 279 10 [1, 2, 3, 4, 5, 6, 7, 8, 9, 10, 0, 11] dX7_method_276 rfl (by decide) rfl rfl ?_
                  refine z_goto C 111 dX7_method_279 (by decide) ?_
                  refine z_sub [0, 1, 2, 3, 4, 5, 6, 7, 8, 9, 10] (lv' := [(0, .ref (am)), (1, .int (iI (t))), (2, .int (iI (n))), (3, .int (iI (k))), (4, .int (iI (y))), (5, .int (iI (c))), (6, .int (iI (p))), (7, .int (iI (q))), (8, .int (iI (r))), (9, .int (iI (1))), (10, .int (iI (((j : Int)) + 1)))]) rfl ?_
                  refine z_as (lv' := [(0, .ref (am)), (1, .int (iI (t))), (2, .int (iI (n))), (3, .int (iI (k))), (4, .int (iI (y))), (5, .int (iI (c))), (6, .int (iI (p))), (7, .int (iI (q))), (8, .int (iI (r))), (9, .int (iI (bI ((true))))), (10, .int (iI (((j + 1) : Int))))]) rfl rfl rfl ?_
                  exact ih4 (j + 1) (true) (by omega) (by clear C hκ hκl hS hB hB1 hB2 hB3 hB4 hB5 hB6 hC hD hw ih2 hme ih4 ih9; simp only [anyN, ← hb, hq]; simp_all) (by omega)
                · skip
                  refine z_iload C 266 11 dX7_method_264 rfl rfl ?_
                  refine z_ifB_eq C 273 269 dX7_method_266 (by decide) rfl (fun c11 => ?_) (fun c11 => ?_)
                  · skip
                    refine z_iconst C 274 dX7_method_273 rfl ?_
                    refine z_istore (lv' := [(0, .ref (am)), (1, .int (iI (t))), (2, .int (iI (n))), (3, .int (iI (k))), (4, .int (iI (y))), (5, .int (iI (c))), (6, .int (iI (p))), (7, .int (iI (q))), (8, .int (iI (r))), (9, .int (iI (0))), (10, .int (iI ((j : Int)))), (11, .int (iI (bI (e))))]) C 276 [1, 2, 3, 4, 5, 6, 7, 8, 9, 0, 10, 11] dX7_method_274 (by decide) rfl rfl ?_
                    refine z_iinc (lv' := [(0, .ref (am)), (1, .int (iI (t))), (2, .int (iI (n))), (3, .int (iI (k))), (4, .int (iI (y))), (5, .int (iI (c))), (6, .int (iI (p))), (7, .int (iI (q))), (8, .int (iI (r))), (9, .int (iI (0))), (10, .int (iI (((j : Int)) + 1))), (11, .int (iI (bI (e))))]) C 279 10 [1, 2, 3, 4, 5, 6, 7, 8, 9, 10, 0, 11] dX7_method_276 rfl (by decide) rfl rfl ?_
                    refine z_goto C 111 dX7_method_279 (by decide) ?_
                    refine z_sub [0, 1, 2, 3, 4, 5, 6, 7, 8, 9, 10] (lv' := [(0, .ref (am)), (1, .int (iI (t))), (2, .int (iI (n))), (3, .int (iI (k))), (4, .int (iI (y))), (5, .int (iI (c))), (6, .int (iI (p))), (7, .int (iI (q))), (8, .int (iI (r))), (9, .int (iI (0))), (10, .int (iI (((j : Int)) + 1)))]) rfl ?_
                    refine z_as (lv' := [(0, .ref (am)), (1, .int (iI (t))), (2, .int (iI (n))), (3, .int (iI (k))), (4, .int (iI (y))), (5, .int (iI (c))), (6, .int (iI (p))), (7, .int (iI (q))), (8, .int (iI (r))), (9, .int (iI (bI ((false))))), (10, .int (iI (((j + 1) : Int))))]) rfl rfl rfl ?_
                    exact ih4 (j + 1) (false) (by omega) (by clear C hκ hκl hS hB hB1 hB2 hB3 hB4 hB5 hB6 hC hD hw ih2 hme ih4 ih9; simp only [anyN, ← hb, hq]; simp_all) (by omega)
                  · skip
                    refine z_iconst C 270 dX7_method_269 rfl ?_
                    refine z_goto C 274 dX7_method_270 (by decide) ?_
                    refine z_istore (lv' := [(0, .ref (am)), (1, .int (iI (t))), (2, .int (iI (n))), (3, .int (iI (k))), (4, .int (iI (y))), (5, .int (iI (c))), (6, .int (iI (p))), (7, .int (iI (q))), (8, .int (iI (r))), (9, .int (iI (1))), (10, .int (iI ((j : Int)))), (11, .int (iI (bI (e))))]) C 276 [1, 2, 3, 4, 5, 6, 7, 8, 9, 0, 10, 11] dX7_method_274 (by decide) rfl rfl ?_
                    refine z_iinc (lv' := [(0, .ref (am)), (1, .int (iI (t))), (2, .int (iI (n))), (3, .int (iI (k))), (4, .int (iI (y))), (5, .int (iI (c))), (6, .int (iI (p))), (7, .int (iI (q))), (8, .int (iI (r))), (9, .int (iI (1))), (10, .int (iI (((j : Int)) + 1))), (11, .int (iI (bI (e))))]) C 279 10 [1, 2, 3, 4, 5, 6, 7, 8, 9, 10, 0, 11] dX7_method_276 rfl (by decide) rfl rfl ?_
                    refine z_goto C 111 dX7_method_279 (by decide) ?_
                    refine z_sub [0, 1, 2, 3, 4, 5, 6, 7, 8, 9, 10] (lv' := [(0, .ref (am)), (1, .int (iI (t))), (2, .int (iI (n))), (3, .int (iI (k))), (4, .int (iI (y))), (5, .int (iI (c))), (6, .int (iI (p))), (7, .int (iI (q))), (8, .int (iI (r))), (9, .int (iI (1))), (10, .int (iI (((j : Int)) + 1)))]) rfl ?_
                    refine z_as (lv' := [(0, .ref (am)), (1, .int (iI (t))), (2, .int (iI (n))), (3, .int (iI (k))), (4, .int (iI (y))), (5, .int (iI (c))), (6, .int (iI (p))), (7, .int (iI (q))), (8, .int (iI (r))), (9, .int (iI (bI ((true))))), (10, .int (iI (((j + 1) : Int))))]) rfl rfl rfl ?_
                    exact ih4 (j + 1) (true) (by omega) (by clear C hκ hκl hS hB hB1 hB2 hB3 hB4 hB5 hB6 hC hD hw ih2 hme ih4 ih9; simp only [anyN, ← hb, hq]; simp_all) (by omega)
            refine z_aload_n C 121 0 dX7_method_120 rfl rfl ?_
            refine m_geta C hκ 124 16 (by decide) rfl q2011 rfl dX7_method_121 rfl ?_
            refine z_iload C 126 10 dX7_method_124 rfl rfl ?_
            obtain ⟨f12a, f12b, f12c, f12d⟩ := hS.M (show 0 ≤ (j : Int) by omega) (by omega)
            refine m_bald (len := 100) C hκ hD hw 127 16 (by decide) rfl rfl rfl (by omega) (by omega) dX7_method_126 rfl ?_
            refine z_ifB_ne C 180 130 dX7_method_127 (by decide) rfl (fun c13 => ?_) (fun c13 => ?_)
            · skip
              have c13b : (w 16 ((j : Int)) = 1) := of_decide_eq_true c13
              refine z_iconst C 181 dX7_method_180 rfl ?_
              refine z_istore (lv' := [(0, .ref (am)), (1, .int (iI (t))), (2, .int (iI (n))), (3, .int (iI (k))), (4, .int (iI (y))), (5, .int (iI (c))), (6, .int (iI (p))), (7, .int (iI (q))), (8, .int (iI (r))), (9, .int (iI (bI (b)))), (10, .int (iI ((j : Int)))), (11, .int (iI (0)))]) C 183 [1, 2, 3, 4, 5, 6, 7, 8, 9, 10, 11, 0] dX7_method_181 (by decide) rfl rfl ?_
              refine z_iload C 185 11 dX7_method_183 rfl rfl ?_
              refine z_if_eq C 256 188 dX7_method_185 (by decide) ⟨by decide, by decide⟩ rfl (fun c14 => ?_) (fun c14 => absurd c14 (by decide))
              refine z_iconst C 257 dX7_method_256 rfl ?_
              refine z_istore (lv' := [(0, .ref (am)), (1, .int (iI (t))), (2, .int (iI (n))), (3, .int (iI (k))), (4, .int (iI (y))), (5, .int (iI (c))), (6, .int (iI (p))), (7, .int (iI (q))), (8, .int (iI (r))), (9, .int (iI (bI (b)))), (10, .int (iI ((j : Int)))), (11, .int (iI (0)))]) C 259 [1, 2, 3, 4, 5, 6, 7, 8, 9, 10, 11, 0] dX7_method_257 (by decide) rfl rfl ?_
              refine z_as (lv' := [(0, .ref (am)), (1, .int (iI (t))), (2, .int (iI (n))), (3, .int (iI (k))), (4, .int (iI (y))), (5, .int (iI (c))), (6, .int (iI (p))), (7, .int (iI (q))), (8, .int (iI (r))), (9, .int (iI (bI (b)))), (10, .int (iI ((j : Int)))), (11, .int (iI (bI ((false)))))]) rfl rfl rfl ?_
              exact L259_8 _ (false) (by clear C hκ hκl hS hB hB1 hB2 hB3 hB4 hB5 hB6 hC hD hw ih2 hme ih4 f12a f12b f12c f12d; unfold meP; first | (simp_all; done) | grind) (Nat.lt_succ_self _)
            · skip
              have c13b : ¬ (w 16 ((j : Int)) = 1) := of_decide_eq_false c13
              refine z_aload_n C 131 0 dX7_method_130 rfl rfl ?_
              refine m_geta C hκ 134 13 (by decide) rfl q2008 rfl dX7_method_131 rfl ?_
              refine z_iload C 136 10 dX7_method_134 rfl rfl ?_
              refine m_iald (len := 100) C hκ hD 137 13 (by decide) rfl rfl (by omega) (by omega) dX7_method_136 rfl ?_
              refine z_iload_n C 138 1 dX7_method_137 rfl rfl ?_
              refine z_icmp_ne C 180 141 dX7_method_138 (by decide) (hw.r _ _ rfl) r_t rfl (fun c15 => ?_) (fun c15 => ?_)
              · skip
                refine z_iconst C 181 dX7_method_180 rfl ?_
                refine z_istore (lv' := [(0, .ref (am)), (1, .int (iI (t))), (2, .int (iI (n))), (3, .int (iI (k))), (4, .int (iI (y))), (5, .int (iI (c))), (6, .int (iI (p))), (7, .int (iI (q))), (8, .int (iI (r))), (9, .int (iI (bI (b)))), (10, .int (iI ((j : Int)))), (11, .int (iI (0)))]) C 183 [1, 2, 3, 4, 5, 6, 7, 8, 9, 10, 11, 0] dX7_method_181 (by decide) rfl rfl ?_
                refine z_iload C 185 11 dX7_method_183 rfl rfl ?_
                refine z_if_eq C 256 188 dX7_method_185 (by decide) ⟨by decide, by decide⟩ rfl (fun c16 => ?_) (fun c16 => absurd c16 (by decide))
                refine z_iconst C 257 dX7_method_256 rfl ?_
                refine z_istore (lv' := [(0, .ref (am)), (1, .int (iI (t))), (2, .int (iI (n))), (3, .int (iI (k))), (4, .int (iI (y))), (5, .int (iI (c))), (6, .int (iI (p))), (7, .int (iI (q))), (8, .int (iI (r))), (9, .int (iI (bI (b)))), (10, .int (iI ((j : Int)))), (11, .int (iI (0)))]) C 259 [1, 2, 3, 4, 5, 6, 7, 8, 9, 10, 11, 0] dX7_method_257 (by decide) rfl rfl ?_
                refine z_as (lv' := [(0, .ref (am)), (1, .int (iI (t))), (2, .int (iI (n))), (3, .int (iI (k))), (4, .int (iI (y))), (5, .int (iI (c))), (6, .int (iI (p))), (7, .int (iI (q))), (8, .int (iI (r))), (9, .int (iI (bI (b)))), (10, .int (iI ((j : Int)))), (11, .int (iI (bI ((false)))))]) rfl rfl rfl ?_
                exact L259_8 _ (false) (by clear C hκ hκl hS hB hB1 hB2 hB3 hB4 hB5 hB6 hC hD hw ih2 hme ih4 f12a f12b f12c f12d; unfold meP; first | (simp_all; done) | grind) (Nat.lt_succ_self _)
              · skip
                refine z_aload_n C 142 0 dX7_method_141 rfl rfl ?_
                refine m_geta C hκ 145 14 (by decide) rfl q2009 rfl dX7_method_142 rfl ?_
                refine z_iload C 147 10 dX7_method_145 rfl rfl ?_
                refine m_iald (len := 100) C hκ hD 148 14 (by decide) rfl rfl (by omega) (by omega) dX7_method_147 rfl ?_
                refine z_iload_n C 149 2 dX7_method_148 rfl rfl ?_
                refine z_icmp_ne C 180 152 dX7_method_149 (by decide) (hw.r _ _ rfl) r_n rfl (fun c17 => ?_) (fun c17 => ?_)
                · skip
                  refine z_iconst C 181 dX7_method_180 rfl ?_
                  refine z_istore (lv' := [(0, .ref (am)), (1, .int (iI (t))), (2, .int (iI (n))), (3, .int (iI (k))), (4, .int (iI (y))), (5, .int (iI (c))), (6, .int (iI (p))), (7, .int (iI (q))), (8, .int (iI (r))), (9, .int (iI (bI (b)))), (10, .int (iI ((j : Int)))), (11, .int (iI (0)))]) C 183 [1, 2, 3, 4, 5, 6, 7, 8, 9, 10, 11, 0] dX7_method_181 (by decide) rfl rfl ?_
                  refine z_iload C 185 11 dX7_method_183 rfl rfl ?_
                  refine z_if_eq C 256 188 dX7_method_185 (by decide) ⟨by decide, by decide⟩ rfl (fun c18 => ?_) (fun c18 => absurd c18 (by decide))
                  refine z_iconst C 257 dX7_method_256 rfl ?_
                  refine z_istore (lv' := [(0, .ref (am)), (1, .int (iI (t))), (2, .int (iI (n))), (3, .int (iI (k))), (4, .int (iI (y))), (5, .int (iI (c))), (6, .int (iI (p))), (7, .int (iI (q))), (8, .int (iI (r))), (9, .int (iI (bI (b)))), (10, .int (iI ((j : Int)))), (11, .int (iI (0)))]) C 259 [1, 2, 3, 4, 5, 6, 7, 8, 9, 10, 11, 0] dX7_method_257 (by decide) rfl rfl ?_
                  refine z_as (lv' := [(0, .ref (am)), (1, .int (iI (t))), (2, .int (iI (n))), (3, .int (iI (k))), (4, .int (iI (y))), (5, .int (iI (c))), (6, .int (iI (p))), (7, .int (iI (q))), (8, .int (iI (r))), (9, .int (iI (bI (b)))), (10, .int (iI ((j : Int)))), (11, .int (iI (bI ((false)))))]) rfl rfl rfl ?_
                  exact L259_8 _ (false) (by clear C hκ hκl hS hB hB1 hB2 hB3 hB4 hB5 hB6 hC hD hw ih2 hme ih4 f12a f12b f12c f12d; unfold meP; first | (simp_all; done) | grind) (Nat.lt_succ_self _)
                · skip
                  refine z_aload_n C 153 0 dX7_method_152 rfl rfl ?_
                  refine m_geta C hκ 156 17 (by decide) rfl q2012 rfl dX7_method_153 rfl ?_
                  refine z_iload C 158 10 dX7_method_156 rfl rfl ?_
                  refine m_iald (len := 100) C hκ hD 159 17 (by decide) rfl rfl (by omega) (by omega) dX7_method_158 rfl ?_
                  refine z_iload C 161 4 dX7_method_159 rfl rfl ?_
                  refine z_icmp_ne C 180 164 dX7_method_161 (by decide) (hw.r _ _ rfl) r_y rfl (fun c19 => ?_) (fun c19 => ?_)
                  · skip
                    refine z_iconst C 181 dX7_method_180 rfl ?_
                    refine z_istore (lv' := [(0, .ref (am)), (1, .int (iI (t))), (2, .int (iI (n))), (3, .int (iI (k))), (4, .int (iI (y))), (5, .int (iI (c))), (6, .int (iI (p))), (7, .int (iI (q))), (8, .int (iI (r))), (9, .int (iI (bI (b)))), (10, .int (iI ((j : Int)))), (11, .int (iI (0)))]) C 183 [1, 2, 3, 4, 5, 6, 7, 8, 9, 10, 11, 0] dX7_method_181 (by decide) rfl rfl ?_
                    refine z_iload C 185 11 dX7_method_183 rfl rfl ?_
                    refine z_if_eq C 256 188 dX7_method_185 (by decide) ⟨by decide, by decide⟩ rfl (fun c20 => ?_) (fun c20 => absurd c20 (by decide))
                    refine z_iconst C 257 dX7_method_256 rfl ?_
                    refine z_istore (lv' := [(0, .ref (am)), (1, .int (iI (t))), (2, .int (iI (n))), (3, .int (iI (k))), (4, .int (iI (y))), (5, .int (iI (c))), (6, .int (iI (p))), (7, .int (iI (q))), (8, .int (iI (r))), (9, .int (iI (bI (b)))), (10, .int (iI ((j : Int)))), (11, .int (iI (0)))]) C 259 [1, 2, 3, 4, 5, 6, 7, 8, 9, 10, 11, 0] dX7_method_257 (by decide) rfl rfl ?_
                    refine z_as (lv' := [(0, .ref (am)), (1, .int (iI (t))), (2, .int (iI (n))), (3, .int (iI (k))), (4, .int (iI (y))), (5, .int (iI (c))), (6, .int (iI (p))), (7, .int (iI (q))), (8, .int (iI (r))), (9, .int (iI (bI (b)))), (10, .int (iI ((j : Int)))), (11, .int (iI (bI ((false)))))]) rfl rfl rfl ?_
                    exact L259_8 _ (false) (by clear C hκ hκl hS hB hB1 hB2 hB3 hB4 hB5 hB6 hC hD hw ih2 hme ih4 f12a f12b f12c f12d; unfold meP; first | (simp_all; done) | grind) (Nat.lt_succ_self _)
                  · skip
                    refine z_aload_n C 165 0 dX7_method_164 rfl rfl ?_
                    refine m_geta C hκ 168 18 (by decide) rfl q2013 rfl dX7_method_165 rfl ?_
                    refine z_iload C 170 10 dX7_method_168 rfl rfl ?_
                    refine m_iald (len := 100) C hκ hD 171 18 (by decide) rfl rfl (by omega) (by omega) dX7_method_170 rfl ?_
                    refine z_iload C 173 5 dX7_method_171 rfl rfl ?_
                    refine z_icmp_ne C 180 176 dX7_method_173 (by decide) (hw.r _ _ rfl) r_c rfl (fun c21 => ?_) (fun c21 => ?_)
                    · skip
                      refine z_iconst C 181 dX7_method_180 rfl ?_
                      refine z_istore (lv' := [(0, .ref (am)), (1, .int (iI (t))), (2, .int (iI (n))), (3, .int (iI (k))), (4, .int (iI (y))), (5, .int (iI (c))), (6, .int (iI (p))), (7, .int (iI (q))), (8, .int (iI (r))), (9, .int (iI (bI (b)))), (10, .int (iI ((j : Int)))), (11, .int (iI (0)))]) C 183 [1, 2, 3, 4, 5, 6, 7, 8, 9, 10, 11, 0] dX7_method_181 (by decide) rfl rfl ?_
                      refine z_iload C 185 11 dX7_method_183 rfl rfl ?_
                      refine z_if_eq C 256 188 dX7_method_185 (by decide) ⟨by decide, by decide⟩ rfl (fun c22 => ?_) (fun c22 => absurd c22 (by decide))
                      refine z_iconst C 257 dX7_method_256 rfl ?_
                      refine z_istore (lv' := [(0, .ref (am)), (1, .int (iI (t))), (2, .int (iI (n))), (3, .int (iI (k))), (4, .int (iI (y))), (5, .int (iI (c))), (6, .int (iI (p))), (7, .int (iI (q))), (8, .int (iI (r))), (9, .int (iI (bI (b)))), (10, .int (iI ((j : Int)))), (11, .int (iI (0)))]) C 259 [1, 2, 3, 4, 5, 6, 7, 8, 9, 10, 11, 0] dX7_method_257 (by decide) rfl rfl ?_
                      refine z_as (lv' := [(0, .ref (am)), (1, .int (iI (t))), (2, .int (iI (n))), (3, .int (iI (k))), (4, .int (iI (y))), (5, .int (iI (c))), (6, .int (iI (p))), (7, .int (iI (q))), (8, .int (iI (r))), (9, .int (iI (bI (b)))), (10, .int (iI ((j : Int)))), (11, .int (iI (bI ((false)))))]) rfl rfl rfl ?_
                      exact L259_8 _ (false) (by clear C hκ hκl hS hB hB1 hB2 hB3 hB4 hB5 hB6 hC hD hw ih2 hme ih4 f12a f12b f12c f12d; unfold meP; first | (simp_all; done) | grind) (Nat.lt_succ_self _)
                    · skip
                      refine z_iconst C 177 dX7_method_176 rfl ?_
                      refine z_goto C 181 dX7_method_177 (by decide) ?_
                      refine z_istore (lv' := [(0, .ref (am)), (1, .int (iI (t))), (2, .int (iI (n))), (3, .int (iI (k))), (4, .int (iI (y))), (5, .int (iI (c))), (6, .int (iI (p))), (7, .int (iI (q))), (8, .int (iI (r))), (9, .int (iI (bI (b)))), (10, .int (iI ((j : Int)))), (11, .int (iI (1)))]) C 183 [1, 2, 3, 4, 5, 6, 7, 8, 9, 10, 11, 0] dX7_method_181 (by decide) rfl rfl ?_
                      refine z_iload C 185 11 dX7_method_183 rfl rfl ?_
                      refine z_if_eq C 256 188 dX7_method_185 (by decide) ⟨by decide, by decide⟩ rfl (fun c23 => absurd c23 (by decide)) (fun c23 => ?_)
                      refine z_iload C 190 5 dX7_method_188 rfl rfl ?_
                      refine z_iconst C 191 dX7_method_190 rfl ?_
                      refine z_icmp_lt C 208 194 dX7_method_191 (by decide) r_c ⟨by decide, by decide⟩ rfl (fun c24 => ?_) (fun c24 => ?_)
                      · skip
                        refine z_iload C 210 5 dX7_method_208 rfl rfl ?_
                        refine z_iconst C 211 dX7_method_210 rfl ?_
                        refine z_icmp_lt C 230 214 dX7_method_211 (by decide) r_c ⟨by decide, by decide⟩ rfl (fun c25 => ?_) (fun c25 => ?_)
                        · skip
                          refine z_iload C 232 5 dX7_method_230 rfl rfl ?_
                          refine z_iconst C 233 dX7_method_232 rfl ?_
                          refine z_icmp_lt C 252 236 dX7_method_233 (by decide) r_c ⟨by decide, by decide⟩ rfl (fun c26 => ?_) (fun c26 => ?_)
                          · skip
                            refine z_iconst C 253 dX7_method_252 rfl ?_
                            refine z_goto C 257 dX7_method_253 (by decide) ?_
                            refine z_istore (lv' := [(0, .ref (am)), (1, .int (iI (t))), (2, .int (iI (n))), (3, .int (iI (k))), (4, .int (iI (y))), (5, .int (iI (c))), (6, .int (iI (p))), (7, .int (iI (q))), (8, .int (iI (r))), (9, .int (iI (bI (b)))), (10, .int (iI ((j : Int)))), (11, .int (iI (1)))]) C 259 [1, 2, 3, 4, 5, 6, 7, 8, 9, 10, 11, 0] dX7_method_257 (by decide) rfl rfl ?_
                            refine z_as (lv' := [(0, .ref (am)), (1, .int (iI (t))), (2, .int (iI (n))), (3, .int (iI (k))), (4, .int (iI (y))), (5, .int (iI (c))), (6, .int (iI (p))), (7, .int (iI (q))), (8, .int (iI (r))), (9, .int (iI (bI (b)))), (10, .int (iI ((j : Int)))), (11, .int (iI (bI ((true)))))]) rfl rfl rfl ?_
                            exact L259_8 _ (true) (by clear C hκ hκl hS hB hB1 hB2 hB3 hB4 hB5 hB6 hC hD hw ih2 hme ih4 f12a f12b f12c f12d; unfold meP; first | (simp_all; done) | grind) (Nat.lt_succ_self _)
                          · skip
                            refine z_aload_n C 237 0 dX7_method_236 rfl rfl ?_
                            refine m_geta C hκ 240 19 (by decide) rfl q2014 rfl dX7_method_237 rfl ?_
                            refine z_iconst C 241 dX7_method_240 rfl ?_
                            refine z_iload C 243 10 dX7_method_241 rfl rfl ?_
                            refine z_imul C 244 dX7_method_243 rfl ?_
                            refine z_iconst C 245 dX7_method_244 rfl ?_
                            refine z_iadd C 246 dX7_method_245 rfl ?_
                            refine m_iald (len := 300) C hκ hD 247 19 (by decide) rfl rfl (by omega) (by omega) dX7_method_246 rfl ?_
                            refine z_iload C 249 8 dX7_method_247 rfl rfl ?_
                            refine z_icmp_ne C 256 252 dX7_method_249 (by decide) (hw.r _ _ rfl) r_r rfl (fun c27 => ?_) (fun c27 => ?_)
                            · skip
                              refine z_iconst C 257 dX7_method_256 rfl ?_
                              refine z_istore (lv' := [(0, .ref (am)), (1, .int (iI (t))), (2, .int (iI (n))), (3, .int (iI (k))), (4, .int (iI (y))), (5, .int (iI (c))), (6, .int (iI (p))), (7, .int (iI (q))), (8, .int (iI (r))), (9, .int (iI (bI (b)))), (10, .int (iI ((j : Int)))), (11, .int (iI (0)))]) C 259 [1, 2, 3, 4, 5, 6, 7, 8, 9, 10, 11, 0] dX7_method_257 (by decide) rfl rfl ?_
                              refine z_as (lv' := [(0, .ref (am)), (1, .int (iI (t))), (2, .int (iI (n))), (3, .int (iI (k))), (4, .int (iI (y))), (5, .int (iI (c))), (6, .int (iI (p))), (7, .int (iI (q))), (8, .int (iI (r))), (9, .int (iI (bI (b)))), (10, .int (iI ((j : Int)))), (11, .int (iI (bI ((false)))))]) rfl rfl rfl ?_
                              exact L259_8 _ (false) (by clear C hκ hκl hS hB hB1 hB2 hB3 hB4 hB5 hB6 hC hD hw ih2 hme ih4 f12a f12b f12c f12d; unfold meP; first | (simp_all; done) | grind) (Nat.lt_succ_self _)
                            · skip
                              refine z_iconst C 253 dX7_method_252 rfl ?_
                              refine z_goto C 257 dX7_method_253 (by decide) ?_
                              refine z_istore (lv' := [(0, .ref (am)), (1, .int (iI (t))), (2, .int (iI (n))), (3, .int (iI (k))), (4, .int (iI (y))), (5, .int (iI (c))), (6, .int (iI (p))), (7, .int (iI (q))), (8, .int (iI (r))), (9, .int (iI (bI (b)))), (10, .int (iI ((j : Int)))), (11, .int (iI (1)))]) C 259 [1, 2, 3, 4, 5, 6, 7, 8, 9, 10, 11, 0] dX7_method_257 (by decide) rfl rfl ?_
                              refine z_as (lv' := [(0, .ref (am)), (1, .int (iI (t))), (2, .int (iI (n))), (3, .int (iI (k))), (4, .int (iI (y))), (5, .int (iI (c))), (6, .int (iI (p))), (7, .int (iI (q))), (8, .int (iI (r))), (9, .int (iI (bI (b)))), (10, .int (iI ((j : Int)))), (11, .int (iI (bI ((true)))))]) rfl rfl rfl ?_
                              exact L259_8 _ (true) (by clear C hκ hκl hS hB hB1 hB2 hB3 hB4 hB5 hB6 hC hD hw ih2 hme ih4 f12a f12b f12c f12d; unfold meP; first | (simp_all; done) | grind) (Nat.lt_succ_self _)
                        · skip
                          refine z_aload_n C 215 0 dX7_method_214 rfl rfl ?_
                          refine m_geta C hκ 218 19 (by decide) rfl q2014 rfl dX7_method_215 rfl ?_
                          refine z_iconst C 219 dX7_method_218 rfl ?_
                          refine z_iload C 221 10 dX7_method_219 rfl rfl ?_
                          refine z_imul C 222 dX7_method_221 rfl ?_
                          refine z_iconst C 223 dX7_method_222 rfl ?_
                          refine z_iadd C 224 dX7_method_223 rfl ?_
                          refine m_iald (len := 300) C hκ hD 225 19 (by decide) rfl rfl (by omega) (by omega) dX7_method_224 rfl ?_
                          refine z_iload C 227 7 dX7_method_225 rfl rfl ?_
                          refine z_icmp_ne C 256 230 dX7_method_227 (by decide) (hw.r _ _ rfl) r_q rfl (fun c28 => ?_) (fun c28 => ?_)
                          · skip
                            refine z_iconst C 257 dX7_method_256 rfl ?_
                            refine z_istore (lv' := [(0, .ref (am)), (1, .int (iI (t))), (2, .int (iI (n))), (3, .int (iI (k))), (4, .int (iI (y))), (5, .int (iI (c))), (6, .int (iI (p))), (7, .int (iI (q))), (8, .int (iI (r))), (9, .int (iI (bI (b)))), (10, .int (iI ((j : Int)))), (11, .int (iI (0)))]) C 259 [1, 2, 3, 4, 5, 6, 7, 8, 9, 10, 11, 0] dX7_method_257 (by decide) rfl rfl ?_
                            refine z_as (lv' := [(0, .ref (am)), (1, .int (iI (t))), (2, .int (iI (n))), (3, .int (iI (k))), (4, .int (iI (y))), (5, .int (iI (c))), (6, .int (iI (p))), (7, .int (iI (q))), (8, .int (iI (r))), (9, .int (iI (bI (b)))), (10, .int (iI ((j : Int)))), (11, .int (iI (bI ((false)))))]) rfl rfl rfl ?_
                            exact L259_8 _ (false) (by clear C hκ hκl hS hB hB1 hB2 hB3 hB4 hB5 hB6 hC hD hw ih2 hme ih4 f12a f12b f12c f12d; unfold meP; first | (simp_all; done) | grind) (Nat.lt_succ_self _)
                          · skip
                            refine z_iload C 232 5 dX7_method_230 rfl rfl ?_
                            refine z_iconst C 233 dX7_method_232 rfl ?_
                            refine z_icmp_lt C 252 236 dX7_method_233 (by decide) r_c ⟨by decide, by decide⟩ rfl (fun c29 => ?_) (fun c29 => ?_)
                            · skip
                              refine z_iconst C 253 dX7_method_252 rfl ?_
                              refine z_goto C 257 dX7_method_253 (by decide) ?_
                              refine z_istore (lv' := [(0, .ref (am)), (1, .int (iI (t))), (2, .int (iI (n))), (3, .int (iI (k))), (4, .int (iI (y))), (5, .int (iI (c))), (6, .int (iI (p))), (7, .int (iI (q))), (8, .int (iI (r))), (9, .int (iI (bI (b)))), (10, .int (iI ((j : Int)))), (11, .int (iI (1)))]) C 259 [1, 2, 3, 4, 5, 6, 7, 8, 9, 10, 11, 0] dX7_method_257 (by decide) rfl rfl ?_
                              refine z_as (lv' := [(0, .ref (am)), (1, .int (iI (t))), (2, .int (iI (n))), (3, .int (iI (k))), (4, .int (iI (y))), (5, .int (iI (c))), (6, .int (iI (p))), (7, .int (iI (q))), (8, .int (iI (r))), (9, .int (iI (bI (b)))), (10, .int (iI ((j : Int)))), (11, .int (iI (bI ((true)))))]) rfl rfl rfl ?_
                              exact L259_8 _ (true) (by clear C hκ hκl hS hB hB1 hB2 hB3 hB4 hB5 hB6 hC hD hw ih2 hme ih4 f12a f12b f12c f12d; unfold meP; first | (simp_all; done) | grind) (Nat.lt_succ_self _)
                            · skip
                              refine z_aload_n C 237 0 dX7_method_236 rfl rfl ?_
                              refine m_geta C hκ 240 19 (by decide) rfl q2014 rfl dX7_method_237 rfl ?_
                              refine z_iconst C 241 dX7_method_240 rfl ?_
                              refine z_iload C 243 10 dX7_method_241 rfl rfl ?_
                              refine z_imul C 244 dX7_method_243 rfl ?_
                              refine z_iconst C 245 dX7_method_244 rfl ?_
                              refine z_iadd C 246 dX7_method_245 rfl ?_
                              refine m_iald (len := 300) C hκ hD 247 19 (by decide) rfl rfl (by omega) (by omega) dX7_method_246 rfl ?_
                              refine z_iload C 249 8 dX7_method_247 rfl rfl ?_
                              refine z_icmp_ne C 256 252 dX7_method_249 (by decide) (hw.r _ _ rfl) r_r rfl (fun c30 => ?_) (fun c30 => ?_)
                              · skip
                                refine z_iconst C 257 dX7_method_256 rfl ?_
                                refine z_istore (lv' := [(0, .ref (am)), (1, .int (iI (t))), (2, .int (iI (n))), (3, .int (iI (k))), (4, .int (iI (y))), (5, .int (iI (c))), (6, .int (iI (p))), (7, .int (iI (q))), (8, .int (iI (r))), (9, .int (iI (bI (b)))), (10, .int (iI ((j : Int)))), (11, .int (iI (0)))]) C 259 [1, 2, 3, 4, 5, 6, 7, 8, 9, 10, 11, 0] dX7_method_257 (by decide) rfl rfl ?_
                                refine z_as (lv' := [(0, .ref (am)), (1, .int (iI (t))), (2, .int (iI (n))), (3, .int (iI (k))), (4, .int (iI (y))), (5, .int (iI (c))), (6, .int (iI (p))), (7, .int (iI (q))), (8, .int (iI (r))), (9, .int (iI (bI (b)))), (10, .int (iI ((j : Int)))), (11, .int (iI (bI ((false)))))]) rfl rfl rfl ?_
                                exact L259_8 _ (false) (by clear C hκ hκl hS hB hB1 hB2 hB3 hB4 hB5 hB6 hC hD hw ih2 hme ih4 f12a f12b f12c f12d; unfold meP; first | (simp_all; done) | grind) (Nat.lt_succ_self _)
                              · skip
                                refine z_iconst C 253 dX7_method_252 rfl ?_
                                refine z_goto C 257 dX7_method_253 (by decide) ?_
                                refine z_istore (lv' := [(0, .ref (am)), (1, .int (iI (t))), (2, .int (iI (n))), (3, .int (iI (k))), (4, .int (iI (y))), (5, .int (iI (c))), (6, .int (iI (p))), (7, .int (iI (q))), (8, .int (iI (r))), (9, .int (iI (bI (b)))), (10, .int (iI ((j : Int)))), (11, .int (iI (1)))]) C 259 [1, 2, 3, 4, 5, 6, 7, 8, 9, 10, 11, 0] dX7_method_257 (by decide) rfl rfl ?_
                                refine z_as (lv' := [(0, .ref (am)), (1, .int (iI (t))), (2, .int (iI (n))), (3, .int (iI (k))), (4, .int (iI (y))), (5, .int (iI (c))), (6, .int (iI (p))), (7, .int (iI (q))), (8, .int (iI (r))), (9, .int (iI (bI (b)))), (10, .int (iI ((j : Int)))), (11, .int (iI (bI ((true)))))]) rfl rfl rfl ?_
                                exact L259_8 _ (true) (by clear C hκ hκl hS hB hB1 hB2 hB3 hB4 hB5 hB6 hC hD hw ih2 hme ih4 f12a f12b f12c f12d; unfold meP; first | (simp_all; done) | grind) (Nat.lt_succ_self _)
                      · skip
                        refine z_aload_n C 195 0 dX7_method_194 rfl rfl ?_
                        refine m_geta C hκ 198 19 (by decide) rfl q2014 rfl dX7_method_195 rfl ?_
                        refine z_iconst C 199 dX7_method_198 rfl ?_
                        refine z_iload C 201 10 dX7_method_199 rfl rfl ?_
                        refine z_imul C 202 dX7_method_201 rfl ?_
                        refine m_iald (len := 300) C hκ hD 203 19 (by decide) rfl rfl (by omega) (by omega) dX7_method_202 rfl ?_
                        refine z_iload C 205 6 dX7_method_203 rfl rfl ?_
                        refine z_icmp_ne C 256 208 dX7_method_205 (by decide) (hw.r _ _ rfl) r_p rfl (fun c31 => ?_) (fun c31 => ?_)
                        · skip
                          refine z_iconst C 257 dX7_method_256 rfl ?_
                          refine z_istore (lv' := [(0, .ref (am)), (1, .int (iI (t))), (2, .int (iI (n))), (3, .int (iI (k))), (4, .int (iI (y))), (5, .int (iI (c))), (6, .int (iI (p))), (7, .int (iI (q))), (8, .int (iI (r))), (9, .int (iI (bI (b)))), (10, .int (iI ((j : Int)))), (11, .int (iI (0)))]) C 259 [1, 2, 3, 4, 5, 6, 7, 8, 9, 10, 11, 0] dX7_method_257 (by decide) rfl rfl ?_
                          refine z_as (lv' := [(0, .ref (am)), (1, .int (iI (t))), (2, .int (iI (n))), (3, .int (iI (k))), (4, .int (iI (y))), (5, .int (iI (c))), (6, .int (iI (p))), (7, .int (iI (q))), (8, .int (iI (r))), (9, .int (iI (bI (b)))), (10, .int (iI ((j : Int)))), (11, .int (iI (bI ((false)))))]) rfl rfl rfl ?_
                          exact L259_8 _ (false) (by clear C hκ hκl hS hB hB1 hB2 hB3 hB4 hB5 hB6 hC hD hw ih2 hme ih4 f12a f12b f12c f12d; unfold meP; first | (simp_all; done) | grind) (Nat.lt_succ_self _)
                        · skip
                          refine z_iload C 210 5 dX7_method_208 rfl rfl ?_
                          refine z_iconst C 211 dX7_method_210 rfl ?_
                          refine z_icmp_lt C 230 214 dX7_method_211 (by decide) r_c ⟨by decide, by decide⟩ rfl (fun c32 => ?_) (fun c32 => ?_)
                          · skip
                            refine z_iload C 232 5 dX7_method_230 rfl rfl ?_
                            refine z_iconst C 233 dX7_method_232 rfl ?_
                            refine z_icmp_lt C 252 236 dX7_method_233 (by decide) r_c ⟨by decide, by decide⟩ rfl (fun c33 => ?_) (fun c33 => ?_)
                            · skip
                              refine z_iconst C 253 dX7_method_252 rfl ?_
                              refine z_goto C 257 dX7_method_253 (by decide) ?_
                              refine z_istore (lv' := [(0, .ref (am)), (1, .int (iI (t))), (2, .int (iI (n))), (3, .int (iI (k))), (4, .int (iI (y))), (5, .int (iI (c))), (6, .int (iI (p))), (7, .int (iI (q))), (8, .int (iI (r))), (9, .int (iI (bI (b)))), (10, .int (iI ((j : Int)))), (11, .int (iI (1)))]) C 259 [1, 2, 3, 4, 5, 6, 7, 8, 9, 10, 11, 0] dX7_method_257 (by decide) rfl rfl ?_
                              refine z_as (lv' := [(0, .ref (am)), (1, .int (iI (t))), (2, .int (iI (n))), (3, .int (iI (k))), (4, .int (iI (y))), (5, .int (iI (c))), (6, .int (iI (p))), (7, .int (iI (q))), (8, .int (iI (r))), (9, .int (iI (bI (b)))), (10, .int (iI ((j : Int)))), (11, .int (iI (bI ((true)))))]) rfl rfl rfl ?_
                              exact L259_8 _ (true) (by clear C hκ hκl hS hB hB1 hB2 hB3 hB4 hB5 hB6 hC hD hw ih2 hme ih4 f12a f12b f12c f12d; unfold meP; first | (simp_all; done) | grind) (Nat.lt_succ_self _)
                            · skip
                              refine z_aload_n C 237 0 dX7_method_236 rfl rfl ?_
                              refine m_geta C hκ 240 19 (by decide) rfl q2014 rfl dX7_method_237 rfl ?_
                              refine z_iconst C 241 dX7_method_240 rfl ?_
                              refine z_iload C 243 10 dX7_method_241 rfl rfl ?_
                              refine z_imul C 244 dX7_method_243 rfl ?_
                              refine z_iconst C 245 dX7_method_244 rfl ?_
                              refine z_iadd C 246 dX7_method_245 rfl ?_
                              refine m_iald (len := 300) C hκ hD 247 19 (by decide) rfl rfl (by omega) (by omega) dX7_method_246 rfl ?_
                              refine z_iload C 249 8 dX7_method_247 rfl rfl ?_
                              refine z_icmp_ne C 256 252 dX7_method_249 (by decide) (hw.r _ _ rfl) r_r rfl (fun c34 => ?_) (fun c34 => ?_)
                              · skip
                                refine z_iconst C 257 dX7_method_256 rfl ?_
                                refine z_istore (lv' := [(0, .ref (am)), (1, .int (iI (t))), (2, .int (iI (n))), (3, .int (iI (k))), (4, .int (iI (y))), (5, .int (iI (c))), (6, .int (iI (p))), (7, .int (iI (q))), (8, .int (iI (r))), (9, .int (iI (bI (b)))), (10, .int (iI ((j : Int)))), (11, .int (iI (0)))]) C 259 [1, 2, 3, 4, 5, 6, 7, 8, 9, 10, 11, 0] dX7_method_257 (by decide) rfl rfl ?_
                                refine z_as (lv' := [(0, .ref (am)), (1, .int (iI (t))), (2, .int (iI (n))), (3, .int (iI (k))), (4, .int (iI (y))), (5, .int (iI (c))), (6, .int (iI (p))), (7, .int (iI (q))), (8, .int (iI (r))), (9, .int (iI (bI (b)))), (10, .int (iI ((j : Int)))), (11, .int (iI (bI ((false)))))]) rfl rfl rfl ?_
                                exact L259_8 _ (false) (by clear C hκ hκl hS hB hB1 hB2 hB3 hB4 hB5 hB6 hC hD hw ih2 hme ih4 f12a f12b f12c f12d; unfold meP; first | (simp_all; done) | grind) (Nat.lt_succ_self _)
                              · skip
                                refine z_iconst C 253 dX7_method_252 rfl ?_
                                refine z_goto C 257 dX7_method_253 (by decide) ?_
                                refine z_istore (lv' := [(0, .ref (am)), (1, .int (iI (t))), (2, .int (iI (n))), (3, .int (iI (k))), (4, .int (iI (y))), (5, .int (iI (c))), (6, .int (iI (p))), (7, .int (iI (q))), (8, .int (iI (r))), (9, .int (iI (bI (b)))), (10, .int (iI ((j : Int)))), (11, .int (iI (1)))]) C 259 [1, 2, 3, 4, 5, 6, 7, 8, 9, 10, 11, 0] dX7_method_257 (by decide) rfl rfl ?_
                                refine z_as (lv' := [(0, .ref (am)), (1, .int (iI (t))), (2, .int (iI (n))), (3, .int (iI (k))), (4, .int (iI (y))), (5, .int (iI (c))), (6, .int (iI (p))), (7, .int (iI (q))), (8, .int (iI (r))), (9, .int (iI (bI (b)))), (10, .int (iI ((j : Int)))), (11, .int (iI (bI ((true)))))]) rfl rfl rfl ?_
                                exact L259_8 _ (true) (by clear C hκ hκl hS hB hB1 hB2 hB3 hB4 hB5 hB6 hC hD hw ih2 hme ih4 f12a f12b f12c f12d; unfold meP; first | (simp_all; done) | grind) (Nat.lt_succ_self _)
                          · skip
                            refine z_aload_n C 215 0 dX7_method_214 rfl rfl ?_
                            refine m_geta C hκ 218 19 (by decide) rfl q2014 rfl dX7_method_215 rfl ?_
                            refine z_iconst C 219 dX7_method_218 rfl ?_
                            refine z_iload C 221 10 dX7_method_219 rfl rfl ?_
                            refine z_imul C 222 dX7_method_221 rfl ?_
                            refine z_iconst C 223 dX7_method_222 rfl ?_
                            refine z_iadd C 224 dX7_method_223 rfl ?_
                            refine m_iald (len := 300) C hκ hD 225 19 (by decide) rfl rfl (by omega) (by omega) dX7_method_224 rfl ?_
                            refine z_iload C 227 7 dX7_method_225 rfl rfl ?_
                            refine z_icmp_ne C 256 230 dX7_method_227 (by decide) (hw.r _ _ rfl) r_q rfl (fun c35 => ?_) (fun c35 => ?_)
                            · skip
                              refine z_iconst C 257 dX7_method_256 rfl ?_
                              refine z_istore (lv' := [(0, .ref (am)), (1, .int (iI (t))), (2, .int (iI (n))), (3, .int (iI (k))), (4, .int (iI (y))), (5, .int (iI (c))), (6, .int (iI (p))), (7, .int (iI (q))), (8, .int (iI (r))), (9, .int (iI (bI (b)))), (10, .int (iI ((j : Int)))), (11, .int (iI (0)))]) C 259 [1, 2, 3, 4, 5, 6, 7, 8, 9, 10, 11, 0] dX7_method_257 (by decide) rfl rfl ?_
                              refine z_as (lv' := [(0, .ref (am)), (1, .int (iI (t))), (2, .int (iI (n))), (3, .int (iI (k))), (4, .int (iI (y))), (5, .int (iI (c))), (6, .int (iI (p))), (7, .int (iI (q))), (8, .int (iI (r))), (9, .int (iI (bI (b)))), (10, .int (iI ((j : Int)))), (11, .int (iI (bI ((false)))))]) rfl rfl rfl ?_
                              exact L259_8 _ (false) (by clear C hκ hκl hS hB hB1 hB2 hB3 hB4 hB5 hB6 hC hD hw ih2 hme ih4 f12a f12b f12c f12d; unfold meP; first | (simp_all; done) | grind) (Nat.lt_succ_self _)
                            · skip
                              refine z_iload C 232 5 dX7_method_230 rfl rfl ?_
                              refine z_iconst C 233 dX7_method_232 rfl ?_
                              refine z_icmp_lt C 252 236 dX7_method_233 (by decide) r_c ⟨by decide, by decide⟩ rfl (fun c36 => ?_) (fun c36 => ?_)
                              · skip
                                refine z_iconst C 253 dX7_method_252 rfl ?_
                                refine z_goto C 257 dX7_method_253 (by decide) ?_
                                refine z_istore (lv' := [(0, .ref (am)), (1, .int (iI (t))), (2, .int (iI (n))), (3, .int (iI (k))), (4, .int (iI (y))), (5, .int (iI (c))), (6, .int (iI (p))), (7, .int (iI (q))), (8, .int (iI (r))), (9, .int (iI (bI (b)))), (10, .int (iI ((j : Int)))), (11, .int (iI (1)))]) C 259 [1, 2, 3, 4, 5, 6, 7, 8, 9, 10, 11, 0] dX7_method_257 (by decide) rfl rfl ?_
                                refine z_as (lv' := [(0, .ref (am)), (1, .int (iI (t))), (2, .int (iI (n))), (3, .int (iI (k))), (4, .int (iI (y))), (5, .int (iI (c))), (6, .int (iI (p))), (7, .int (iI (q))), (8, .int (iI (r))), (9, .int (iI (bI (b)))), (10, .int (iI ((j : Int)))), (11, .int (iI (bI ((true)))))]) rfl rfl rfl ?_
                                exact L259_8 _ (true) (by clear C hκ hκl hS hB hB1 hB2 hB3 hB4 hB5 hB6 hC hD hw ih2 hme ih4 f12a f12b f12c f12d; unfold meP; first | (simp_all; done) | grind) (Nat.lt_succ_self _)
                              · skip
                                refine z_aload_n C 237 0 dX7_method_236 rfl rfl ?_
                                refine m_geta C hκ 240 19 (by decide) rfl q2014 rfl dX7_method_237 rfl ?_
                                refine z_iconst C 241 dX7_method_240 rfl ?_
                                refine z_iload C 243 10 dX7_method_241 rfl rfl ?_
                                refine z_imul C 244 dX7_method_243 rfl ?_
                                refine z_iconst C 245 dX7_method_244 rfl ?_
                                refine z_iadd C 246 dX7_method_245 rfl ?_
                                refine m_iald (len := 300) C hκ hD 247 19 (by decide) rfl rfl (by omega) (by omega) dX7_method_246 rfl ?_
                                refine z_iload C 249 8 dX7_method_247 rfl rfl ?_
                                refine z_icmp_ne C 256 252 dX7_method_249 (by decide) (hw.r _ _ rfl) r_r rfl (fun c37 => ?_) (fun c37 => ?_)
                                · skip
                                  refine z_iconst C 257 dX7_method_256 rfl ?_
                                  refine z_istore (lv' := [(0, .ref (am)), (1, .int (iI (t))), (2, .int (iI (n))), (3, .int (iI (k))), (4, .int (iI (y))), (5, .int (iI (c))), (6, .int (iI (p))), (7, .int (iI (q))), (8, .int (iI (r))), (9, .int (iI (bI (b)))), (10, .int (iI ((j : Int)))), (11, .int (iI (0)))]) C 259 [1, 2, 3, 4, 5, 6, 7, 8, 9, 10, 11, 0] dX7_method_257 (by decide) rfl rfl ?_
                                  refine z_as (lv' := [(0, .ref (am)), (1, .int (iI (t))), (2, .int (iI (n))), (3, .int (iI (k))), (4, .int (iI (y))), (5, .int (iI (c))), (6, .int (iI (p))), (7, .int (iI (q))), (8, .int (iI (r))), (9, .int (iI (bI (b)))), (10, .int (iI ((j : Int)))), (11, .int (iI (bI ((false)))))]) rfl rfl rfl ?_
                                  exact L259_8 _ (false) (by clear C hκ hκl hS hB hB1 hB2 hB3 hB4 hB5 hB6 hC hD hw ih2 hme ih4 f12a f12b f12c f12d; unfold meP; first | (simp_all; done) | grind) (Nat.lt_succ_self _)
                                · skip
                                  refine z_iconst C 253 dX7_method_252 rfl ?_
                                  refine z_goto C 257 dX7_method_253 (by decide) ?_
                                  refine z_istore (lv' := [(0, .ref (am)), (1, .int (iI (t))), (2, .int (iI (n))), (3, .int (iI (k))), (4, .int (iI (y))), (5, .int (iI (c))), (6, .int (iI (p))), (7, .int (iI (q))), (8, .int (iI (r))), (9, .int (iI (bI (b)))), (10, .int (iI ((j : Int)))), (11, .int (iI (1)))]) C 259 [1, 2, 3, 4, 5, 6, 7, 8, 9, 10, 11, 0] dX7_method_257 (by decide) rfl rfl ?_
                                  refine z_as (lv' := [(0, .ref (am)), (1, .int (iI (t))), (2, .int (iI (n))), (3, .int (iI (k))), (4, .int (iI (y))), (5, .int (iI (c))), (6, .int (iI (p))), (7, .int (iI (q))), (8, .int (iI (r))), (9, .int (iI (bI (b)))), (10, .int (iI ((j : Int)))), (11, .int (iI (bI ((true)))))]) rfl rfl rfl ?_
                                  exact L259_8 _ (true) (by clear C hκ hκl hS hB hB1 hB2 hB3 hB4 hB5 hB6 hC hD hw ih2 hme ih4 f12a f12b f12c f12d; unfold meP; first | (simp_all; done) | grind) (Nat.lt_succ_self _)
      refine z_as (lv' := [(0, .ref (am)), (1, .int (iI (t))), (2, .int (iI (n))), (3, .int (iI (k))), (4, .int (iI (y))), (5, .int (iI (c))), (6, .int (iI (p))), (7, .int (iI (q))), (8, .int (iI (r))), (9, .int (iI (bI ((false))))), (10, .int (iI (((0) : Int))))]) rfl rfl rfl ?_
      exact L111_3 _ (0) (false) (by omega) rfl (Nat.lt_succ_self _)
  refine z_aload_n C 1 0 dX7_method_0 rfl rfl ?_
  refine z_iload_n C 2 1 dX7_method_1 rfl rfl ?_
  refine z_callVF (n' := 0) (k' := 0) (As := [.int (iI (t))]) (rest := []) C hκ hκl 5 (k7_declares hD hw (t) r_t hB) dX7_method_2 q2184 q2186 qs42 q97 q2187 znX7_declares (Nat.le_of_ble_eq_true rfl) (Nat.le_of_ble_eq_true rfl) (Nat.le_of_ble_eq_true rfl) (Nat.le_of_ble_eq_true rfl) mrec rfl rfl (Nat.le_of_ble_eq_true rfl) rfl rfl rfl ?_
  refine z_ifB_eq C 57 8 dX7_method_5 (by decide) rfl (fun c38 => ?_) (fun c38 => ?_)
  · skip
    have c38b : ¬ (0 ≤ (t) ∧ (t) < w 0 0 ∧ (t) ≠ 8 ∧ (w 1 (t) = 1 ∨ w 1 (t) = 2 ∨ w 1 (t) = 3)) := of_decide_eq_false c38
    refine z_iconst C 58 dX7_method_57 rfl ?_
    exact z_iret C dX7_method_58 rfl (Nat.le_of_ble_eq_true rfl) (Nat.le_of_ble_eq_true rfl) ⟨congrArg (fun z => some (Value.int (iI z))) (by clear C hκ hκl hS hB hB1 hB2 hB3 hB4 hB5 hB6 hC hD hw L105_1; unfold meI; rw [if_pos]; unfold meA; first | (simp_all; done) | grind), (congrArg (fun w' => mP θ am ar w' N) (by clear C hκ hκl hS hB hB1 hB2 hB3 hB4 hB5 hB6 hC hD hw L105_1; rw [if_neg]; unfold meO meA; first | (simp_all; done) | grind))⟩
  · skip
    have c38b : (0 ≤ (t) ∧ (t) < w 0 0 ∧ (t) ≠ 8 ∧ (w 1 (t) = 1 ∨ w 1 (t) = 2 ∨ w 1 (t) = 3)) := of_decide_eq_true c38
    refine z_iload_n C 9 2 dX7_method_8 rfl rfl ?_
    refine z_i2l C 10 dX7_method_9 r_n rfl ?_
    refine z_lconst (x := 0) C 11 dX7_method_10 rfl rfl ?_
    refine z_ldc2 (z := 19) C 14 dX7_method_11 q2232 (by decide) rfl ?_
    refine z_callSF (n' := 0) (k' := 0) (As := [.long (lI (n)), .long (lI (0)), .long (lI (19))]) (rest := []) C hκ hκl 17 (k7_in (n) (0) (19) (inR_L r_n) ⟨by decide, by decide⟩ ⟨by decide, by decide⟩) dX7_method_14 q2164 q2165 q97 q2166 znX7_in (Nat.le_of_ble_eq_true rfl) (Nat.le_of_ble_eq_true rfl) (Nat.le_of_ble_eq_true rfl) (Nat.le_of_ble_eq_true rfl) rfl (Nat.le_of_ble_eq_true rfl) rfl rfl rfl ?_
    refine z_ifB_eq C 57 20 dX7_method_17 (by decide) rfl (fun c39 => ?_) (fun c39 => ?_)
    · skip
      have c39b : ¬ (((0) ≤ (n) ∧ (n) ≤ (19))) := of_decide_eq_false c39
      refine z_iconst C 58 dX7_method_57 rfl ?_
      exact z_iret C dX7_method_58 rfl (Nat.le_of_ble_eq_true rfl) (Nat.le_of_ble_eq_true rfl) ⟨congrArg (fun z => some (Value.int (iI z))) (by clear C hκ hκl hS hB hB1 hB2 hB3 hB4 hB5 hB6 hC hD hw L105_1; unfold meI; rw [if_pos]; unfold meA; first | (simp_all; done) | grind), (congrArg (fun w' => mP θ am ar w' N) (by clear C hκ hκl hS hB hB1 hB2 hB3 hB4 hB5 hB6 hC hD hw L105_1; rw [if_neg]; unfold meO meA; first | (simp_all; done) | grind))⟩
    · skip
      have c39b : (((0) ≤ (n) ∧ (n) ≤ (19))) := of_decide_eq_true c39
      refine z_aload_n C 21 0 dX7_method_20 rfl rfl ?_
      refine z_iload_n C 22 1 dX7_method_21 rfl rfl ?_
      refine z_iload_n C 23 3 dX7_method_22 rfl rfl ?_
      refine z_callVF (n' := 0) (k' := 0) (As := [.int (iI (t)), .int (iI (k))]) (rest := []) C hκ hκl 26 (k7_mayBe hD hw (t) (k) r_t r_k (by omega)) dX7_method_23 q2250 q2252 qs49 q97 q2253 znX7_mayBe (Nat.le_of_ble_eq_true rfl) (Nat.le_of_ble_eq_true rfl) (Nat.le_of_ble_eq_true rfl) (Nat.le_of_ble_eq_true rfl) mrec rfl rfl (Nat.le_of_ble_eq_true rfl) rfl rfl rfl ?_
      refine z_ifB_eq C 57 29 dX7_method_26 (by decide) rfl (fun c40 => ?_) (fun c40 => ?_)
      · skip
        refine z_iconst C 58 dX7_method_57 rfl ?_
        exact z_iret C dX7_method_58 rfl (Nat.le_of_ble_eq_true rfl) (Nat.le_of_ble_eq_true rfl) ⟨congrArg (fun z => some (Value.int (iI z))) (by clear C hκ hκl hS hB hB1 hB2 hB3 hB4 hB5 hB6 hC hD hw L105_1; unfold meI; rw [if_pos]; unfold meA; first | (simp_all; done) | grind), (congrArg (fun w' => mP θ am ar w' N) (by clear C hκ hκl hS hB hB1 hB2 hB3 hB4 hB5 hB6 hC hD hw L105_1; rw [if_neg]; unfold meO meA; first | (simp_all; done) | grind))⟩
      · skip
        refine z_iload C 31 4 dX7_method_29 rfl rfl ?_
        refine z_iconst C 32 dX7_method_31 rfl ?_
        refine z_icmp_eq C 44 35 dX7_method_32 (by decide) r_y ⟨by decide, by decide⟩ rfl (fun c41 => ?_) (fun c41 => ?_)
        · skip
          refine z_iload C 46 5 dX7_method_44 rfl rfl ?_
          refine z_i2l C 47 dX7_method_46 r_c rfl ?_
          refine z_lconst (x := 0) C 48 dX7_method_47 rfl rfl ?_
          refine z_ldc2 (z := 3) C 51 dX7_method_48 q2167 (by decide) rfl ?_
          refine z_callSF (n' := 0) (k' := 0) (As := [.long (lI (c)), .long (lI (0)), .long (lI (3))]) (rest := []) C hκ hκl 54 (k7_in (c) (0) (3) (inR_L r_c) ⟨by decide, by decide⟩ ⟨by decide, by decide⟩) dX7_method_51 q2164 q2165 q97 q2166 znX7_in (Nat.le_of_ble_eq_true rfl) (Nat.le_of_ble_eq_true rfl) (Nat.le_of_ble_eq_true rfl) (Nat.le_of_ble_eq_true rfl) rfl (Nat.le_of_ble_eq_true rfl) rfl rfl rfl ?_
          refine z_ifB_ne C 59 57 dX7_method_54 (by decide) rfl (fun c42 => ?_) (fun c42 => ?_)
          · skip
            have c42b : (((0) ≤ (c) ∧ (c) ≤ (3))) := of_decide_eq_true c42
            refine z_iload C 61 5 dX7_method_59 rfl rfl ?_
            refine z_if_le C 73 64 dX7_method_61 (by decide) r_c rfl (fun c43 => ?_) (fun c43 => ?_)
            · skip
              refine z_iload C 75 5 dX7_method_73 rfl rfl ?_
              refine z_iconst C 76 dX7_method_75 rfl ?_
              refine z_icmp_le C 88 79 dX7_method_76 (by decide) r_c ⟨by decide, by decide⟩ rfl (fun c44 => ?_) (fun c44 => ?_)
              · skip
                refine z_iload C 90 5 dX7_method_88 rfl rfl ?_
                refine z_iconst C 91 dX7_method_90 rfl ?_
                refine z_icmp_le C 105 94 dX7_method_91 (by decide) r_c ⟨by decide, by decide⟩ rfl (fun c45 => ?_) (fun c45 => ?_)
                · skip
                  refine z_as (lv' := [(0, .ref (am)), (1, .int (iI (t))), (2, .int (iI (n))), (3, .int (iI (k))), (4, .int (iI (y))), (5, .int (iI (c))), (6, .int (iI (p))), (7, .int (iI (q))), (8, .int (iI (r)))]) rfl rfl rfl ?_
                  exact L105_1 _  (by clear C hκ hκl hS hB hB1 hB2 hB3 hB4 hB5 hB6 hC hD hw L105_1; unfold meA; first | (simp_all; done) | grind) (by clear C hκ hκl hS hB hB1 hB2 hB3 hB4 hB5 hB6 hC hD hw L105_1; unfold meB; first | (simp_all; done) | grind) (Nat.lt_succ_self _)
                · skip
                  refine z_aload_n C 95 0 dX7_method_94 rfl rfl ?_
                  refine z_iload C 97 8 dX7_method_95 rfl rfl ?_
                  refine z_callVF (n' := 0) (k' := 0) (As := [.int (iI (r))]) (rest := []) C hκ hκl 100 (k7_isType hD hw (r) r_r hB) dX7_method_97 q2160 q2162 qs40 q97 q2163 znX7_isType (Nat.le_of_ble_eq_true rfl) (Nat.le_of_ble_eq_true rfl) (Nat.le_of_ble_eq_true rfl) (Nat.le_of_ble_eq_true rfl) mrec rfl rfl (Nat.le_of_ble_eq_true rfl) rfl rfl rfl ?_
                  refine z_ifB_ne C 105 103 dX7_method_100 (by decide) rfl (fun c46 => ?_) (fun c46 => ?_)
                  · skip
                    have c46b : (0 ≤ (r) ∧ (r) < w 0 0) := of_decide_eq_true c46
                    refine z_as (lv' := [(0, .ref (am)), (1, .int (iI (t))), (2, .int (iI (n))), (3, .int (iI (k))), (4, .int (iI (y))), (5, .int (iI (c))), (6, .int (iI (p))), (7, .int (iI (q))), (8, .int (iI (r)))]) rfl rfl rfl ?_
                    exact L105_1 _  (by clear C hκ hκl hS hB hB1 hB2 hB3 hB4 hB5 hB6 hC hD hw L105_1; unfold meA; first | (simp_all; done) | grind) (by clear C hκ hκl hS hB hB1 hB2 hB3 hB4 hB5 hB6 hC hD hw L105_1; unfold meB; first | (simp_all; done) | grind) (Nat.lt_succ_self _)
                  · skip
                    have c46b : ¬ (0 ≤ (r) ∧ (r) < w 0 0) := of_decide_eq_false c46
                    refine z_iconst C 104 dX7_method_103 rfl ?_
                    exact z_iret C dX7_method_104 rfl (Nat.le_of_ble_eq_true rfl) (Nat.le_of_ble_eq_true rfl) ⟨congrArg (fun z => some (Value.int (iI z))) (by clear C hκ hκl hS hB hB1 hB2 hB3 hB4 hB5 hB6 hC hD hw L105_1; unfold meI; rw [if_pos]; unfold meB; first | (simp_all; done) | grind), (congrArg (fun w' => mP θ am ar w' N) (by clear C hκ hκl hS hB hB1 hB2 hB3 hB4 hB5 hB6 hC hD hw L105_1; rw [if_neg]; unfold meO meB; first | (simp_all; done) | grind))⟩
              · skip
                refine z_aload_n C 80 0 dX7_method_79 rfl rfl ?_
                refine z_iload C 82 7 dX7_method_80 rfl rfl ?_
                refine z_callVF (n' := 0) (k' := 0) (As := [.int (iI (q))]) (rest := []) C hκ hκl 85 (k7_isType hD hw (q) r_q hB) dX7_method_82 q2160 q2162 qs40 q97 q2163 znX7_isType (Nat.le_of_ble_eq_true rfl) (Nat.le_of_ble_eq_true rfl) (Nat.le_of_ble_eq_true rfl) (Nat.le_of_ble_eq_true rfl) mrec rfl rfl (Nat.le_of_ble_eq_true rfl) rfl rfl rfl ?_
                refine z_ifB_eq C 103 88 dX7_method_85 (by decide) rfl (fun c47 => ?_) (fun c47 => ?_)
                · skip
                  have c47b : ¬ (0 ≤ (q) ∧ (q) < w 0 0) := of_decide_eq_false c47
                  refine z_iconst C 104 dX7_method_103 rfl ?_
                  exact z_iret C dX7_method_104 rfl (Nat.le_of_ble_eq_true rfl) (Nat.le_of_ble_eq_true rfl) ⟨congrArg (fun z => some (Value.int (iI z))) (by clear C hκ hκl hS hB hB1 hB2 hB3 hB4 hB5 hB6 hC hD hw L105_1; unfold meI; rw [if_pos]; unfold meB; first | (simp_all; done) | grind), (congrArg (fun w' => mP θ am ar w' N) (by clear C hκ hκl hS hB hB1 hB2 hB3 hB4 hB5 hB6 hC hD hw L105_1; rw [if_neg]; unfold meO meB; first | (simp_all; done) | grind))⟩
                · skip
                  have c47b : (0 ≤ (q) ∧ (q) < w 0 0) := of_decide_eq_true c47
                  refine z_iload C 90 5 dX7_method_88 rfl rfl ?_
                  refine z_iconst C 91 dX7_method_90 rfl ?_
                  refine z_icmp_le C 105 94 dX7_method_91 (by decide) r_c ⟨by decide, by decide⟩ rfl (fun c48 => ?_) (fun c48 => ?_)
                  · skip
                    refine z_as (lv' := [(0, .ref (am)), (1, .int (iI (t))), (2, .int (iI (n))), (3, .int (iI (k))), (4, .int (iI (y))), (5, .int (iI (c))), (6, .int (iI (p))), (7, .int (iI (q))), (8, .int (iI (r)))]) rfl rfl rfl ?_
                    exact L105_1 _  (by clear C hκ hκl hS hB hB1 hB2 hB3 hB4 hB5 hB6 hC hD hw L105_1; unfold meA; first | (simp_all; done) | grind) (by clear C hκ hκl hS hB hB1 hB2 hB3 hB4 hB5 hB6 hC hD hw L105_1; unfold meB; first | (simp_all; done) | grind) (Nat.lt_succ_self _)
                  · skip
                    refine z_aload_n C 95 0 dX7_method_94 rfl rfl ?_
                    refine z_iload C 97 8 dX7_method_95 rfl rfl ?_
                    refine z_callVF (n' := 0) (k' := 0) (As := [.int (iI (r))]) (rest := []) C hκ hκl 100 (k7_isType hD hw (r) r_r hB) dX7_method_97 q2160 q2162 qs40 q97 q2163 znX7_isType (Nat.le_of_ble_eq_true rfl) (Nat.le_of_ble_eq_true rfl) (Nat.le_of_ble_eq_true rfl) (Nat.le_of_ble_eq_true rfl) mrec rfl rfl (Nat.le_of_ble_eq_true rfl) rfl rfl rfl ?_
                    refine z_ifB_ne C 105 103 dX7_method_100 (by decide) rfl (fun c49 => ?_) (fun c49 => ?_)
                    · skip
                      have c49b : (0 ≤ (r) ∧ (r) < w 0 0) := of_decide_eq_true c49
                      refine z_as (lv' := [(0, .ref (am)), (1, .int (iI (t))), (2, .int (iI (n))), (3, .int (iI (k))), (4, .int (iI (y))), (5, .int (iI (c))), (6, .int (iI (p))), (7, .int (iI (q))), (8, .int (iI (r)))]) rfl rfl rfl ?_
                      exact L105_1 _  (by clear C hκ hκl hS hB hB1 hB2 hB3 hB4 hB5 hB6 hC hD hw L105_1; unfold meA; first | (simp_all; done) | grind) (by clear C hκ hκl hS hB hB1 hB2 hB3 hB4 hB5 hB6 hC hD hw L105_1; unfold meB; first | (simp_all; done) | grind) (Nat.lt_succ_self _)
                    · skip
                      have c49b : ¬ (0 ≤ (r) ∧ (r) < w 0 0) := of_decide_eq_false c49
                      refine z_iconst C 104 dX7_method_103 rfl ?_
                      exact z_iret C dX7_method_104 rfl (Nat.le_of_ble_eq_true rfl) (Nat.le_of_ble_eq_true rfl) ⟨congrArg (fun z => some (Value.int (iI z))) (by clear C hκ hκl hS hB hB1 hB2 hB3 hB4 hB5 hB6 hC hD hw L105_1; unfold meI; rw [if_pos]; unfold meB; first | (simp_all; done) | grind), (congrArg (fun w' => mP θ am ar w' N) (by clear C hκ hκl hS hB hB1 hB2 hB3 hB4 hB5 hB6 hC hD hw L105_1; rw [if_neg]; unfold meO meB; first | (simp_all; done) | grind))⟩
            · skip
              refine z_aload_n C 65 0 dX7_method_64 rfl rfl ?_
              refine z_iload C 67 6 dX7_method_65 rfl rfl ?_
              refine z_callVF (n' := 0) (k' := 0) (As := [.int (iI (p))]) (rest := []) C hκ hκl 70 (k7_isType hD hw (p) r_p hB) dX7_method_67 q2160 q2162 qs40 q97 q2163 znX7_isType (Nat.le_of_ble_eq_true rfl) (Nat.le_of_ble_eq_true rfl) (Nat.le_of_ble_eq_true rfl) (Nat.le_of_ble_eq_true rfl) mrec rfl rfl (Nat.le_of_ble_eq_true rfl) rfl rfl rfl ?_
              refine z_ifB_eq C 103 73 dX7_method_70 (by decide) rfl (fun c50 => ?_) (fun c50 => ?_)
              · skip
                have c50b : ¬ (0 ≤ (p) ∧ (p) < w 0 0) := of_decide_eq_false c50
                refine z_iconst C 104 dX7_method_103 rfl ?_
                exact z_iret C dX7_method_104 rfl (Nat.le_of_ble_eq_true rfl) (Nat.le_of_ble_eq_true rfl) ⟨congrArg (fun z => some (Value.int (iI z))) (by clear C hκ hκl hS hB hB1 hB2 hB3 hB4 hB5 hB6 hC hD hw L105_1; unfold meI; rw [if_pos]; unfold meB; first | (simp_all; done) | grind), (congrArg (fun w' => mP θ am ar w' N) (by clear C hκ hκl hS hB hB1 hB2 hB3 hB4 hB5 hB6 hC hD hw L105_1; rw [if_neg]; unfold meO meB; first | (simp_all; done) | grind))⟩
              · skip
                have c50b : (0 ≤ (p) ∧ (p) < w 0 0) := of_decide_eq_true c50
                refine z_iload C 75 5 dX7_method_73 rfl rfl ?_
                refine z_iconst C 76 dX7_method_75 rfl ?_
                refine z_icmp_le C 88 79 dX7_method_76 (by decide) r_c ⟨by decide, by decide⟩ rfl (fun c51 => ?_) (fun c51 => ?_)
                · skip
                  refine z_iload C 90 5 dX7_method_88 rfl rfl ?_
                  refine z_iconst C 91 dX7_method_90 rfl ?_
                  refine z_icmp_le C 105 94 dX7_method_91 (by decide) r_c ⟨by decide, by decide⟩ rfl (fun c52 => ?_) (fun c52 => ?_)
                  · skip
                    refine z_as (lv' := [(0, .ref (am)), (1, .int (iI (t))), (2, .int (iI (n))), (3, .int (iI (k))), (4, .int (iI (y))), (5, .int (iI (c))), (6, .int (iI (p))), (7, .int (iI (q))), (8, .int (iI (r)))]) rfl rfl rfl ?_
                    exact L105_1 _  (by clear C hκ hκl hS hB hB1 hB2 hB3 hB4 hB5 hB6 hC hD hw L105_1; unfold meA; first | (simp_all; done) | grind) (by clear C hκ hκl hS hB hB1 hB2 hB3 hB4 hB5 hB6 hC hD hw L105_1; unfold meB; first | (simp_all; done) | grind) (Nat.lt_succ_self _)
                  · skip
                    refine z_aload_n C 95 0 dX7_method_94 rfl rfl ?_
                    refine z_iload C 97 8 dX7_method_95 rfl rfl ?_
                    refine z_callVF (n' := 0) (k' := 0) (As := [.int (iI (r))]) (rest := []) C hκ hκl 100 (k7_isType hD hw (r) r_r hB) dX7_method_97 q2160 q2162 qs40 q97 q2163 znX7_isType (Nat.le_of_ble_eq_true rfl) (Nat.le_of_ble_eq_true rfl) (Nat.le_of_ble_eq_true rfl) (Nat.le_of_ble_eq_true rfl) mrec rfl rfl (Nat.le_of_ble_eq_true rfl) rfl rfl rfl ?_
                    refine z_ifB_ne C 105 103 dX7_method_100 (by decide) rfl (fun c53 => ?_) (fun c53 => ?_)
                    · skip
                      have c53b : (0 ≤ (r) ∧ (r) < w 0 0) := of_decide_eq_true c53
                      refine z_as (lv' := [(0, .ref (am)), (1, .int (iI (t))), (2, .int (iI (n))), (3, .int (iI (k))), (4, .int (iI (y))), (5, .int (iI (c))), (6, .int (iI (p))), (7, .int (iI (q))), (8, .int (iI (r)))]) rfl rfl rfl ?_
                      exact L105_1 _  (by clear C hκ hκl hS hB hB1 hB2 hB3 hB4 hB5 hB6 hC hD hw L105_1; unfold meA; first | (simp_all; done) | grind) (by clear C hκ hκl hS hB hB1 hB2 hB3 hB4 hB5 hB6 hC hD hw L105_1; unfold meB; first | (simp_all; done) | grind) (Nat.lt_succ_self _)
                    · skip
                      have c53b : ¬ (0 ≤ (r) ∧ (r) < w 0 0) := of_decide_eq_false c53
                      refine z_iconst C 104 dX7_method_103 rfl ?_
                      exact z_iret C dX7_method_104 rfl (Nat.le_of_ble_eq_true rfl) (Nat.le_of_ble_eq_true rfl) ⟨congrArg (fun z => some (Value.int (iI z))) (by clear C hκ hκl hS hB hB1 hB2 hB3 hB4 hB5 hB6 hC hD hw L105_1; unfold meI; rw [if_pos]; unfold meB; first | (simp_all; done) | grind), (congrArg (fun w' => mP θ am ar w' N) (by clear C hκ hκl hS hB hB1 hB2 hB3 hB4 hB5 hB6 hC hD hw L105_1; rw [if_neg]; unfold meO meB; first | (simp_all; done) | grind))⟩
                · skip
                  refine z_aload_n C 80 0 dX7_method_79 rfl rfl ?_
                  refine z_iload C 82 7 dX7_method_80 rfl rfl ?_
                  refine z_callVF (n' := 0) (k' := 0) (As := [.int (iI (q))]) (rest := []) C hκ hκl 85 (k7_isType hD hw (q) r_q hB) dX7_method_82 q2160 q2162 qs40 q97 q2163 znX7_isType (Nat.le_of_ble_eq_true rfl) (Nat.le_of_ble_eq_true rfl) (Nat.le_of_ble_eq_true rfl) (Nat.le_of_ble_eq_true rfl) mrec rfl rfl (Nat.le_of_ble_eq_true rfl) rfl rfl rfl ?_
                  refine z_ifB_eq C 103 88 dX7_method_85 (by decide) rfl (fun c54 => ?_) (fun c54 => ?_)
                  · skip
                    have c54b : ¬ (0 ≤ (q) ∧ (q) < w 0 0) := of_decide_eq_false c54
                    refine z_iconst C 104 dX7_method_103 rfl ?_
                    exact z_iret C dX7_method_104 rfl (Nat.le_of_ble_eq_true rfl) (Nat.le_of_ble_eq_true rfl) ⟨congrArg (fun z => some (Value.int (iI z))) (by clear C hκ hκl hS hB hB1 hB2 hB3 hB4 hB5 hB6 hC hD hw L105_1; unfold meI; rw [if_pos]; unfold meB; first | (simp_all; done) | grind), (congrArg (fun w' => mP θ am ar w' N) (by clear C hκ hκl hS hB hB1 hB2 hB3 hB4 hB5 hB6 hC hD hw L105_1; rw [if_neg]; unfold meO meB; first | (simp_all; done) | grind))⟩
                  · skip
                    have c54b : (0 ≤ (q) ∧ (q) < w 0 0) := of_decide_eq_true c54
                    refine z_iload C 90 5 dX7_method_88 rfl rfl ?_
                    refine z_iconst C 91 dX7_method_90 rfl ?_
                    refine z_icmp_le C 105 94 dX7_method_91 (by decide) r_c ⟨by decide, by decide⟩ rfl (fun c55 => ?_) (fun c55 => ?_)
                    · skip
                      refine z_as (lv' := [(0, .ref (am)), (1, .int (iI (t))), (2, .int (iI (n))), (3, .int (iI (k))), (4, .int (iI (y))), (5, .int (iI (c))), (6, .int (iI (p))), (7, .int (iI (q))), (8, .int (iI (r)))]) rfl rfl rfl ?_
                      exact L105_1 _  (by clear C hκ hκl hS hB hB1 hB2 hB3 hB4 hB5 hB6 hC hD hw L105_1; unfold meA; first | (simp_all; done) | grind) (by clear C hκ hκl hS hB hB1 hB2 hB3 hB4 hB5 hB6 hC hD hw L105_1; unfold meB; first | (simp_all; done) | grind) (Nat.lt_succ_self _)
                    · skip
                      refine z_aload_n C 95 0 dX7_method_94 rfl rfl ?_
                      refine z_iload C 97 8 dX7_method_95 rfl rfl ?_
                      refine z_callVF (n' := 0) (k' := 0) (As := [.int (iI (r))]) (rest := []) C hκ hκl 100 (k7_isType hD hw (r) r_r hB) dX7_method_97 q2160 q2162 qs40 q97 q2163 znX7_isType (Nat.le_of_ble_eq_true rfl) (Nat.le_of_ble_eq_true rfl) (Nat.le_of_ble_eq_true rfl) (Nat.le_of_ble_eq_true rfl) mrec rfl rfl (Nat.le_of_ble_eq_true rfl) rfl rfl rfl ?_
                      refine z_ifB_ne C 105 103 dX7_method_100 (by decide) rfl (fun c56 => ?_) (fun c56 => ?_)
                      · skip
                        have c56b : (0 ≤ (r) ∧ (r) < w 0 0) := of_decide_eq_true c56
                        refine z_as (lv' := [(0, .ref (am)), (1, .int (iI (t))), (2, .int (iI (n))), (3, .int (iI (k))), (4, .int (iI (y))), (5, .int (iI (c))), (6, .int (iI (p))), (7, .int (iI (q))), (8, .int (iI (r)))]) rfl rfl rfl ?_
                        exact L105_1 _  (by clear C hκ hκl hS hB hB1 hB2 hB3 hB4 hB5 hB6 hC hD hw L105_1; unfold meA; first | (simp_all; done) | grind) (by clear C hκ hκl hS hB hB1 hB2 hB3 hB4 hB5 hB6 hC hD hw L105_1; unfold meB; first | (simp_all; done) | grind) (Nat.lt_succ_self _)
                      · skip
                        have c56b : ¬ (0 ≤ (r) ∧ (r) < w 0 0) := of_decide_eq_false c56
                        refine z_iconst C 104 dX7_method_103 rfl ?_
                        exact z_iret C dX7_method_104 rfl (Nat.le_of_ble_eq_true rfl) (Nat.le_of_ble_eq_true rfl) ⟨congrArg (fun z => some (Value.int (iI z))) (by clear C hκ hκl hS hB hB1 hB2 hB3 hB4 hB5 hB6 hC hD hw L105_1; unfold meI; rw [if_pos]; unfold meB; first | (simp_all; done) | grind), (congrArg (fun w' => mP θ am ar w' N) (by clear C hκ hκl hS hB hB1 hB2 hB3 hB4 hB5 hB6 hC hD hw L105_1; rw [if_neg]; unfold meO meB; first | (simp_all; done) | grind))⟩
          · skip
            have c42b : ¬ (((0) ≤ (c) ∧ (c) ≤ (3))) := of_decide_eq_false c42
            refine z_iconst C 58 dX7_method_57 rfl ?_
            exact z_iret C dX7_method_58 rfl (Nat.le_of_ble_eq_true rfl) (Nat.le_of_ble_eq_true rfl) ⟨congrArg (fun z => some (Value.int (iI z))) (by clear C hκ hκl hS hB hB1 hB2 hB3 hB4 hB5 hB6 hC hD hw L105_1; unfold meI; rw [if_pos]; unfold meA; first | (simp_all; done) | grind), (congrArg (fun w' => mP θ am ar w' N) (by clear C hκ hκl hS hB hB1 hB2 hB3 hB4 hB5 hB6 hC hD hw L105_1; rw [if_neg]; unfold meO meA; first | (simp_all; done) | grind))⟩
        · skip
          refine z_aload_n C 36 0 dX7_method_35 rfl rfl ?_
          refine z_iload C 38 4 dX7_method_36 rfl rfl ?_
          refine z_callVF (n' := 0) (k' := 0) (As := [.int (iI (y))]) (rest := []) C hκ hκl 41 (k7_isType hD hw (y) r_y hB) dX7_method_38 q2160 q2162 qs40 q97 q2163 znX7_isType (Nat.le_of_ble_eq_true rfl) (Nat.le_of_ble_eq_true rfl) (Nat.le_of_ble_eq_true rfl) (Nat.le_of_ble_eq_true rfl) mrec rfl rfl (Nat.le_of_ble_eq_true rfl) rfl rfl rfl ?_
          refine z_ifB_eq C 57 44 dX7_method_41 (by decide) rfl (fun c57 => ?_) (fun c57 => ?_)
          · skip
            have c57b : ¬ (0 ≤ (y) ∧ (y) < w 0 0) := of_decide_eq_false c57
            refine z_iconst C 58 dX7_method_57 rfl ?_
            exact z_iret C dX7_method_58 rfl (Nat.le_of_ble_eq_true rfl) (Nat.le_of_ble_eq_true rfl) ⟨congrArg (fun z => some (Value.int (iI z))) (by clear C hκ hκl hS hB hB1 hB2 hB3 hB4 hB5 hB6 hC hD hw L105_1; unfold meI; rw [if_pos]; unfold meA; first | (simp_all; done) | grind), (congrArg (fun w' => mP θ am ar w' N) (by clear C hκ hκl hS hB hB1 hB2 hB3 hB4 hB5 hB6 hC hD hw L105_1; rw [if_neg]; unfold meO meA; first | (simp_all; done) | grind))⟩
          · skip
            have c57b : (0 ≤ (y) ∧ (y) < w 0 0) := of_decide_eq_true c57
            refine z_iload C 46 5 dX7_method_44 rfl rfl ?_
            refine z_i2l C 47 dX7_method_46 r_c rfl ?_
            refine z_lconst (x := 0) C 48 dX7_method_47 rfl rfl ?_
            refine z_ldc2 (z := 3) C 51 dX7_method_48 q2167 (by decide) rfl ?_
            refine z_callSF (n' := 0) (k' := 0) (As := [.long (lI (c)), .long (lI (0)), .long (lI (3))]) (rest := []) C hκ hκl 54 (k7_in (c) (0) (3) (inR_L r_c) ⟨by decide, by decide⟩ ⟨by decide, by decide⟩) dX7_method_51 q2164 q2165 q97 q2166 znX7_in (Nat.le_of_ble_eq_true rfl) (Nat.le_of_ble_eq_true rfl) (Nat.le_of_ble_eq_true rfl) (Nat.le_of_ble_eq_true rfl) rfl (Nat.le_of_ble_eq_true rfl) rfl rfl rfl ?_
            refine z_ifB_ne C 59 57 dX7_method_54 (by decide) rfl (fun c58 => ?_) (fun c58 => ?_)
            · skip
              have c58b : (((0) ≤ (c) ∧ (c) ≤ (3))) := of_decide_eq_true c58
              refine z_iload C 61 5 dX7_method_59 rfl rfl ?_
              refine z_if_le C 73 64 dX7_method_61 (by decide) r_c rfl (fun c59 => ?_) (fun c59 => ?_)
              · skip
                refine z_iload C 75 5 dX7_method_73 rfl rfl ?_
                refine z_iconst C 76 dX7_method_75 rfl ?_
                refine z_icmp_le C 88 79 dX7_method_76 (by decide) r_c ⟨by decide, by decide⟩ rfl (fun c60 => ?_) (fun c60 => ?_)
                · skip
                  refine z_iload C 90 5 dX7_method_88 rfl rfl ?_
                  refine z_iconst C 91 dX7_method_90 rfl ?_
                  refine z_icmp_le C 105 94 dX7_method_91 (by decide) r_c ⟨by decide, by decide⟩ rfl (fun c61 => ?_) (fun c61 => ?_)
                  · skip
                    refine z_as (lv' := [(0, .ref (am)), (1, .int (iI (t))), (2, .int (iI (n))), (3, .int (iI (k))), (4, .int (iI (y))), (5, .int (iI (c))), (6, .int (iI (p))), (7, .int (iI (q))), (8, .int (iI (r)))]) rfl rfl rfl ?_
                    exact L105_1 _  (by clear C hκ hκl hS hB hB1 hB2 hB3 hB4 hB5 hB6 hC hD hw L105_1; unfold meA; first | (simp_all; done) | grind) (by clear C hκ hκl hS hB hB1 hB2 hB3 hB4 hB5 hB6 hC hD hw L105_1; unfold meB; first | (simp_all; done) | grind) (Nat.lt_succ_self _)
                  · skip
                    refine z_aload_n C 95 0 dX7_method_94 rfl rfl ?_
                    refine z_iload C 97 8 dX7_method_95 rfl rfl ?_
                    refine z_callVF (n' := 0) (k' := 0) (As := [.int (iI (r))]) (rest := []) C hκ hκl 100 (k7_isType hD hw (r) r_r hB) dX7_method_97 q2160 q2162 qs40 q97 q2163 znX7_isType (Nat.le_of_ble_eq_true rfl) (Nat.le_of_ble_eq_true rfl) (Nat.le_of_ble_eq_true rfl) (Nat.le_of_ble_eq_true rfl) mrec rfl rfl (Nat.le_of_ble_eq_true rfl) rfl rfl rfl ?_
                    refine z_ifB_ne C 105 103 dX7_method_100 (by decide) rfl (fun c62 => ?_) (fun c62 => ?_)
                    · skip
                      have c62b : (0 ≤ (r) ∧ (r) < w 0 0) := of_decide_eq_true c62
                      refine z_as (lv' := [(0, .ref (am)), (1, .int (iI (t))), (2, .int (iI (n))), (3, .int (iI (k))), (4, .int (iI (y))), (5, .int (iI (c))), (6, .int (iI (p))), (7, .int (iI (q))), (8, .int (iI (r)))]) rfl rfl rfl ?_
                      exact L105_1 _  (by clear C hκ hκl hS hB hB1 hB2 hB3 hB4 hB5 hB6 hC hD hw L105_1; unfold meA; first | (simp_all; done) | grind) (by clear C hκ hκl hS hB hB1 hB2 hB3 hB4 hB5 hB6 hC hD hw L105_1; unfold meB; first | (simp_all; done) | grind) (Nat.lt_succ_self _)
                    · skip
                      have c62b : ¬ (0 ≤ (r) ∧ (r) < w 0 0) := of_decide_eq_false c62
                      refine z_iconst C 104 dX7_method_103 rfl ?_
                      exact z_iret C dX7_method_104 rfl (Nat.le_of_ble_eq_true rfl) (Nat.le_of_ble_eq_true rfl) ⟨congrArg (fun z => some (Value.int (iI z))) (by clear C hκ hκl hS hB hB1 hB2 hB3 hB4 hB5 hB6 hC hD hw L105_1; unfold meI; rw [if_pos]; unfold meB; first | (simp_all; done) | grind), (congrArg (fun w' => mP θ am ar w' N) (by clear C hκ hκl hS hB hB1 hB2 hB3 hB4 hB5 hB6 hC hD hw L105_1; rw [if_neg]; unfold meO meB; first | (simp_all; done) | grind))⟩
                · skip
                  refine z_aload_n C 80 0 dX7_method_79 rfl rfl ?_
                  refine z_iload C 82 7 dX7_method_80 rfl rfl ?_
                  refine z_callVF (n' := 0) (k' := 0) (As := [.int (iI (q))]) (rest := []) C hκ hκl 85 (k7_isType hD hw (q) r_q hB) dX7_method_82 q2160 q2162 qs40 q97 q2163 znX7_isType (Nat.le_of_ble_eq_true rfl) (Nat.le_of_ble_eq_true rfl) (Nat.le_of_ble_eq_true rfl) (Nat.le_of_ble_eq_true rfl) mrec rfl rfl (Nat.le_of_ble_eq_true rfl) rfl rfl rfl ?_
                  refine z_ifB_eq C 103 88 dX7_method_85 (by decide) rfl (fun c63 => ?_) (fun c63 => ?_)
                  · skip
                    have c63b : ¬ (0 ≤ (q) ∧ (q) < w 0 0) := of_decide_eq_false c63
                    refine z_iconst C 104 dX7_method_103 rfl ?_
                    exact z_iret C dX7_method_104 rfl (Nat.le_of_ble_eq_true rfl) (Nat.le_of_ble_eq_true rfl) ⟨congrArg (fun z => some (Value.int (iI z))) (by clear C hκ hκl hS hB hB1 hB2 hB3 hB4 hB5 hB6 hC hD hw L105_1; unfold meI; rw [if_pos]; unfold meB; first | (simp_all; done) | grind), (congrArg (fun w' => mP θ am ar w' N) (by clear C hκ hκl hS hB hB1 hB2 hB3 hB4 hB5 hB6 hC hD hw L105_1; rw [if_neg]; unfold meO meB; first | (simp_all; done) | grind))⟩
                  · skip
                    have c63b : (0 ≤ (q) ∧ (q) < w 0 0) := of_decide_eq_true c63
                    refine z_iload C 90 5 dX7_method_88 rfl rfl ?_
                    refine z_iconst C 91 dX7_method_90 rfl ?_
                    refine z_icmp_le C 105 94 dX7_method_91 (by decide) r_c ⟨by decide, by decide⟩ rfl (fun c64 => ?_) (fun c64 => ?_)
                    · skip
                      refine z_as (lv' := [(0, .ref (am)), (1, .int (iI (t))), (2, .int (iI (n))), (3, .int (iI (k))), (4, .int (iI (y))), (5, .int (iI (c))), (6, .int (iI (p))), (7, .int (iI (q))), (8, .int (iI (r)))]) rfl rfl rfl ?_
                      exact L105_1 _  (by clear C hκ hκl hS hB hB1 hB2 hB3 hB4 hB5 hB6 hC hD hw L105_1; unfold meA; first | (simp_all; done) | grind) (by clear C hκ hκl hS hB hB1 hB2 hB3 hB4 hB5 hB6 hC hD hw L105_1; unfold meB; first | (simp_all; done) | grind) (Nat.lt_succ_self _)
                    · skip
                      refine z_aload_n C 95 0 dX7_method_94 rfl rfl ?_
                      refine z_iload C 97 8 dX7_method_95 rfl rfl ?_
                      refine z_callVF (n' := 0) (k' := 0) (As := [.int (iI (r))]) (rest := []) C hκ hκl 100 (k7_isType hD hw (r) r_r hB) dX7_method_97 q2160 q2162 qs40 q97 q2163 znX7_isType (Nat.le_of_ble_eq_true rfl) (Nat.le_of_ble_eq_true rfl) (Nat.le_of_ble_eq_true rfl) (Nat.le_of_ble_eq_true rfl) mrec rfl rfl (Nat.le_of_ble_eq_true rfl) rfl rfl rfl ?_
                      refine z_ifB_ne C 105 103 dX7_method_100 (by decide) rfl (fun c65 => ?_) (fun c65 => ?_)
                      · skip
                        have c65b : (0 ≤ (r) ∧ (r) < w 0 0) := of_decide_eq_true c65
                        refine z_as (lv' := [(0, .ref (am)), (1, .int (iI (t))), (2, .int (iI (n))), (3, .int (iI (k))), (4, .int (iI (y))), (5, .int (iI (c))), (6, .int (iI (p))), (7, .int (iI (q))), (8, .int (iI (r)))]) rfl rfl rfl ?_
                        exact L105_1 _  (by clear C hκ hκl hS hB hB1 hB2 hB3 hB4 hB5 hB6 hC hD hw L105_1; unfold meA; first | (simp_all; done) | grind) (by clear C hκ hκl hS hB hB1 hB2 hB3 hB4 hB5 hB6 hC hD hw L105_1; unfold meB; first | (simp_all; done) | grind) (Nat.lt_succ_self _)
                      · skip
                        have c65b : ¬ (0 ≤ (r) ∧ (r) < w 0 0) := of_decide_eq_false c65
                        refine z_iconst C 104 dX7_method_103 rfl ?_
                        exact z_iret C dX7_method_104 rfl (Nat.le_of_ble_eq_true rfl) (Nat.le_of_ble_eq_true rfl) ⟨congrArg (fun z => some (Value.int (iI z))) (by clear C hκ hκl hS hB hB1 hB2 hB3 hB4 hB5 hB6 hC hD hw L105_1; unfold meI; rw [if_pos]; unfold meB; first | (simp_all; done) | grind), (congrArg (fun w' => mP θ am ar w' N) (by clear C hκ hκl hS hB hB1 hB2 hB3 hB4 hB5 hB6 hC hD hw L105_1; rw [if_neg]; unfold meO meB; first | (simp_all; done) | grind))⟩
              · skip
                refine z_aload_n C 65 0 dX7_method_64 rfl rfl ?_
                refine z_iload C 67 6 dX7_method_65 rfl rfl ?_
                refine z_callVF (n' := 0) (k' := 0) (As := [.int (iI (p))]) (rest := []) C hκ hκl 70 (k7_isType hD hw (p) r_p hB) dX7_method_67 q2160 q2162 qs40 q97 q2163 znX7_isType (Nat.le_of_ble_eq_true rfl) (Nat.le_of_ble_eq_true rfl) (Nat.le_of_ble_eq_true rfl) (Nat.le_of_ble_eq_true rfl) mrec rfl rfl (Nat.le_of_ble_eq_true rfl) rfl rfl rfl ?_
                refine z_ifB_eq C 103 73 dX7_method_70 (by decide) rfl (fun c66 => ?_) (fun c66 => ?_)
                · skip
                  have c66b : ¬ (0 ≤ (p) ∧ (p) < w 0 0) := of_decide_eq_false c66
                  refine z_iconst C 104 dX7_method_103 rfl ?_
                  exact z_iret C dX7_method_104 rfl (Nat.le_of_ble_eq_true rfl) (Nat.le_of_ble_eq_true rfl) ⟨congrArg (fun z => some (Value.int (iI z))) (by clear C hκ hκl hS hB hB1 hB2 hB3 hB4 hB5 hB6 hC hD hw L105_1; unfold meI; rw [if_pos]; unfold meB; first | (simp_all; done) | grind), (congrArg (fun w' => mP θ am ar w' N) (by clear C hκ hκl hS hB hB1 hB2 hB3 hB4 hB5 hB6 hC hD hw L105_1; rw [if_neg]; unfold meO meB; first | (simp_all; done) | grind))⟩
                · skip
                  have c66b : (0 ≤ (p) ∧ (p) < w 0 0) := of_decide_eq_true c66
                  refine z_iload C 75 5 dX7_method_73 rfl rfl ?_
                  refine z_iconst C 76 dX7_method_75 rfl ?_
                  refine z_icmp_le C 88 79 dX7_method_76 (by decide) r_c ⟨by decide, by decide⟩ rfl (fun c67 => ?_) (fun c67 => ?_)
                  · skip
                    refine z_iload C 90 5 dX7_method_88 rfl rfl ?_
                    refine z_iconst C 91 dX7_method_90 rfl ?_
                    refine z_icmp_le C 105 94 dX7_method_91 (by decide) r_c ⟨by decide, by decide⟩ rfl (fun c68 => ?_) (fun c68 => ?_)
                    · skip
                      refine z_as (lv' := [(0, .ref (am)), (1, .int (iI (t))), (2, .int (iI (n))), (3, .int (iI (k))), (4, .int (iI (y))), (5, .int (iI (c))), (6, .int (iI (p))), (7, .int (iI (q))), (8, .int (iI (r)))]) rfl rfl rfl ?_
                      exact L105_1 _  (by clear C hκ hκl hS hB hB1 hB2 hB3 hB4 hB5 hB6 hC hD hw L105_1; unfold meA; first | (simp_all; done) | grind) (by clear C hκ hκl hS hB hB1 hB2 hB3 hB4 hB5 hB6 hC hD hw L105_1; unfold meB; first | (simp_all; done) | grind) (Nat.lt_succ_self _)
                    · skip
                      refine z_aload_n C 95 0 dX7_method_94 rfl rfl ?_
                      refine z_iload C 97 8 dX7_method_95 rfl rfl ?_
                      refine z_callVF (n' := 0) (k' := 0) (As := [.int (iI (r))]) (rest := []) C hκ hκl 100 (k7_isType hD hw (r) r_r hB) dX7_method_97 q2160 q2162 qs40 q97 q2163 znX7_isType (Nat.le_of_ble_eq_true rfl) (Nat.le_of_ble_eq_true rfl) (Nat.le_of_ble_eq_true rfl) (Nat.le_of_ble_eq_true rfl) mrec rfl rfl (Nat.le_of_ble_eq_true rfl) rfl rfl rfl ?_
                      refine z_ifB_ne C 105 103 dX7_method_100 (by decide) rfl (fun c69 => ?_) (fun c69 => ?_)
                      · skip
                        have c69b : (0 ≤ (r) ∧ (r) < w 0 0) := of_decide_eq_true c69
                        refine z_as (lv' := [(0, .ref (am)), (1, .int (iI (t))), (2, .int (iI (n))), (3, .int (iI (k))), (4, .int (iI (y))), (5, .int (iI (c))), (6, .int (iI (p))), (7, .int (iI (q))), (8, .int (iI (r)))]) rfl rfl rfl ?_
                        exact L105_1 _  (by clear C hκ hκl hS hB hB1 hB2 hB3 hB4 hB5 hB6 hC hD hw L105_1; unfold meA; first | (simp_all; done) | grind) (by clear C hκ hκl hS hB hB1 hB2 hB3 hB4 hB5 hB6 hC hD hw L105_1; unfold meB; first | (simp_all; done) | grind) (Nat.lt_succ_self _)
                      · skip
                        have c69b : ¬ (0 ≤ (r) ∧ (r) < w 0 0) := of_decide_eq_false c69
                        refine z_iconst C 104 dX7_method_103 rfl ?_
                        exact z_iret C dX7_method_104 rfl (Nat.le_of_ble_eq_true rfl) (Nat.le_of_ble_eq_true rfl) ⟨congrArg (fun z => some (Value.int (iI z))) (by clear C hκ hκl hS hB hB1 hB2 hB3 hB4 hB5 hB6 hC hD hw L105_1; unfold meI; rw [if_pos]; unfold meB; first | (simp_all; done) | grind), (congrArg (fun w' => mP θ am ar w' N) (by clear C hκ hκl hS hB hB1 hB2 hB3 hB4 hB5 hB6 hC hD hw L105_1; rw [if_neg]; unfold meO meB; first | (simp_all; done) | grind))⟩
                  · skip
                    refine z_aload_n C 80 0 dX7_method_79 rfl rfl ?_
                    refine z_iload C 82 7 dX7_method_80 rfl rfl ?_
                    refine z_callVF (n' := 0) (k' := 0) (As := [.int (iI (q))]) (rest := []) C hκ hκl 85 (k7_isType hD hw (q) r_q hB) dX7_method_82 q2160 q2162 qs40 q97 q2163 znX7_isType (Nat.le_of_ble_eq_true rfl) (Nat.le_of_ble_eq_true rfl) (Nat.le_of_ble_eq_true rfl) (Nat.le_of_ble_eq_true rfl) mrec rfl rfl (Nat.le_of_ble_eq_true rfl) rfl rfl rfl ?_
                    refine z_ifB_eq C 103 88 dX7_method_85 (by decide) rfl (fun c70 => ?_) (fun c70 => ?_)
                    · skip
                      have c70b : ¬ (0 ≤ (q) ∧ (q) < w 0 0) := of_decide_eq_false c70
                      refine z_iconst C 104 dX7_method_103 rfl ?_
                      exact z_iret C dX7_method_104 rfl (Nat.le_of_ble_eq_true rfl) (Nat.le_of_ble_eq_true rfl) ⟨congrArg (fun z => some (Value.int (iI z))) (by clear C hκ hκl hS hB hB1 hB2 hB3 hB4 hB5 hB6 hC hD hw L105_1; unfold meI; rw [if_pos]; unfold meB; first | (simp_all; done) | grind), (congrArg (fun w' => mP θ am ar w' N) (by clear C hκ hκl hS hB hB1 hB2 hB3 hB4 hB5 hB6 hC hD hw L105_1; rw [if_neg]; unfold meO meB; first | (simp_all; done) | grind))⟩
                    · skip
                      have c70b : (0 ≤ (q) ∧ (q) < w 0 0) := of_decide_eq_true c70
                      refine z_iload C 90 5 dX7_method_88 rfl rfl ?_
                      refine z_iconst C 91 dX7_method_90 rfl ?_
                      refine z_icmp_le C 105 94 dX7_method_91 (by decide) r_c ⟨by decide, by decide⟩ rfl (fun c71 => ?_) (fun c71 => ?_)
                      · skip
                        refine z_as (lv' := [(0, .ref (am)), (1, .int (iI (t))), (2, .int (iI (n))), (3, .int (iI (k))), (4, .int (iI (y))), (5, .int (iI (c))), (6, .int (iI (p))), (7, .int (iI (q))), (8, .int (iI (r)))]) rfl rfl rfl ?_
                        exact L105_1 _  (by clear C hκ hκl hS hB hB1 hB2 hB3 hB4 hB5 hB6 hC hD hw L105_1; unfold meA; first | (simp_all; done) | grind) (by clear C hκ hκl hS hB hB1 hB2 hB3 hB4 hB5 hB6 hC hD hw L105_1; unfold meB; first | (simp_all; done) | grind) (Nat.lt_succ_self _)
                      · skip
                        refine z_aload_n C 95 0 dX7_method_94 rfl rfl ?_
                        refine z_iload C 97 8 dX7_method_95 rfl rfl ?_
                        refine z_callVF (n' := 0) (k' := 0) (As := [.int (iI (r))]) (rest := []) C hκ hκl 100 (k7_isType hD hw (r) r_r hB) dX7_method_97 q2160 q2162 qs40 q97 q2163 znX7_isType (Nat.le_of_ble_eq_true rfl) (Nat.le_of_ble_eq_true rfl) (Nat.le_of_ble_eq_true rfl) (Nat.le_of_ble_eq_true rfl) mrec rfl rfl (Nat.le_of_ble_eq_true rfl) rfl rfl rfl ?_
                        refine z_ifB_ne C 105 103 dX7_method_100 (by decide) rfl (fun c72 => ?_) (fun c72 => ?_)
                        · skip
                          have c72b : (0 ≤ (r) ∧ (r) < w 0 0) := of_decide_eq_true c72
                          refine z_as (lv' := [(0, .ref (am)), (1, .int (iI (t))), (2, .int (iI (n))), (3, .int (iI (k))), (4, .int (iI (y))), (5, .int (iI (c))), (6, .int (iI (p))), (7, .int (iI (q))), (8, .int (iI (r)))]) rfl rfl rfl ?_
                          exact L105_1 _  (by clear C hκ hκl hS hB hB1 hB2 hB3 hB4 hB5 hB6 hC hD hw L105_1; unfold meA; first | (simp_all; done) | grind) (by clear C hκ hκl hS hB hB1 hB2 hB3 hB4 hB5 hB6 hC hD hw L105_1; unfold meB; first | (simp_all; done) | grind) (Nat.lt_succ_self _)
                        · skip
                          have c72b : ¬ (0 ≤ (r) ∧ (r) < w 0 0) := of_decide_eq_false c72
                          refine z_iconst C 104 dX7_method_103 rfl ?_
                          exact z_iret C dX7_method_104 rfl (Nat.le_of_ble_eq_true rfl) (Nat.le_of_ble_eq_true rfl) ⟨congrArg (fun z => some (Value.int (iI z))) (by clear C hκ hκl hS hB hB1 hB2 hB3 hB4 hB5 hB6 hC hD hw L105_1; unfold meI; rw [if_pos]; unfold meB; first | (simp_all; done) | grind), (congrArg (fun w' => mP θ am ar w' N) (by clear C hκ hκl hS hB hB1 hB2 hB3 hB4 hB5 hB6 hC hD hw L105_1; rw [if_neg]; unfold meO meB; first | (simp_all; done) | grind))⟩
            · skip
              have c58b : ¬ (((0) ≤ (c) ∧ (c) ≤ (3))) := of_decide_eq_false c58
              refine z_iconst C 58 dX7_method_57 rfl ?_
              exact z_iret C dX7_method_58 rfl (Nat.le_of_ble_eq_true rfl) (Nat.le_of_ble_eq_true rfl) ⟨congrArg (fun z => some (Value.int (iI z))) (by clear C hκ hκl hS hB hB1 hB2 hB3 hB4 hB5 hB6 hC hD hw L105_1; unfold meI; rw [if_pos]; unfold meA; first | (simp_all; done) | grind), (congrArg (fun w' => mP θ am ar w' N) (by clear C hκ hκl hS hB hB1 hB2 hB3 hB4 hB5 hB6 hC hD hw L105_1; rw [if_neg]; unfold meO meA; first | (simp_all; done) | grind))⟩
set_option maxRecDepth 100000 in
theorem k7_newThing {l : Launch} {θ : zTh} {N : zMap} {am : Nat} {ar : Nat → Nat} {w : mW} (hD : mDis am ar) (hw : mWF w) (t : Int) (n : Int) (r_t : inR t) (r_n : inR n) (hx : 0 ≤ w 27 0 ∧ w 27 0 < 80) (ht : 0 ≤ t ∧ t < 60) (hm : 0 ≤ w 11 0 ∧ w 11 0 ≤ 100) : ZF θ l yX7_newThing cX7_newThing 5 (some .int) ⟨1, 0, 0, 20⟩ [.ref (am), .int (iI (t)), .int (iI (n))] (mP θ am ar w N) (some (.int (iI (w 27 0)))) (mP θ am ar (nthW w t n) N) := by
  refine z_start (own := RX7) (nm := "newThing") pnX7 rfl rfl (Nat.le_of_ble_eq_true rfl) ?_
  intro κ hκ hκl C
  change Z κ (mP θ am ar w N) 0 0 0 [(0, .ref (am)), (1, .int (iI (t))), (2, .int (iI (n)))] []
  refine z_aload_n C 1 0 dX7_newThing_0 rfl rfl ?_
  refine m_geti C hκ 4 27 (by decide) rfl q2022 rfl dX7_newThing_1 rfl ?_
  refine z_istore_n (lv' := [(0, .ref (am)), (1, .int (iI (t))), (2, .int (iI (n))), (3, .int (iI (w 27 0)))]) C 5 [1, 2, 3, 0] dX7_newThing_4 (by decide) rfl rfl ?_
  refine z_aload_n C 6 0 dX7_newThing_5 rfl rfl ?_
  refine z_dup C 7 dX7_newThing_6 rfl rfl ?_
  refine m_geti C hκ 10 27 (by decide) rfl q2022 rfl dX7_newThing_7 rfl ?_
  refine z_iconst C 11 dX7_newThing_10 rfl ?_
  refine z_iadd C 12 dX7_newThing_11 rfl ?_
  obtain ⟨w1, ew1⟩ : ∃ wz, mset w 27 (0) ((w 27 0) + (1)) = wz := ⟨_, rfl⟩
  have hw1 : mWF w1 := ew1 ▸ hw.set ⟨by omega, by omega⟩ rfl
  refine m_puti (w' := w1) C hκ 15 27 (by decide) (by decide) rfl q2022 rfl rfl rfl rfl dX7_newThing_12 rfl ew1 ?_
  refine z_aload_n C 16 0 dX7_newThing_15 rfl rfl ?_
  refine m_geta C hκ 19 28 (by decide) rfl q2023 rfl dX7_newThing_16 rfl ?_
  refine z_iload_n C 20 3 dX7_newThing_19 rfl rfl ?_
  refine z_iload_n C 21 1 dX7_newThing_20 rfl rfl ?_
  obtain ⟨w2, ew2⟩ : ∃ wz, mset w1 28 (w 27 0) (t) = wz := ⟨_, rfl⟩
  have hw2 : mWF w2 := ew2 ▸ hw1.set r_t rfl
  refine m_iast (len := 80) (w' := w2) C hκ hD 22 28 (by decide) rfl rfl (by omega) (by omega) dX7_newThing_21 rfl ew2 ?_
  refine z_aload_n C 23 0 dX7_newThing_22 rfl rfl ?_
  refine m_geta C hκ 26 29 (by decide) rfl q2024 rfl dX7_newThing_23 rfl ?_
  refine z_iload_n C 27 3 dX7_newThing_26 rfl rfl ?_
  refine z_iload_n C 28 2 dX7_newThing_27 rfl rfl ?_
  obtain ⟨w3, ew3⟩ : ∃ wz, mset w2 29 (w 27 0) (n) = wz := ⟨_, rfl⟩
  have hw3 : mWF w3 := ew3 ▸ hw2.set r_n rfl
  refine m_iast (len := 80) (w' := w3) C hκ hD 29 29 (by decide) rfl rfl (by omega) (by omega) dX7_newThing_28 rfl ew3 ?_
  refine z_iconst C 30 dX7_newThing_29 rfl ?_
  refine z_istore (lv' := [(0, .ref (am)), (1, .int (iI (t))), (2, .int (iI (n))), (3, .int (iI (w 27 0))), (4, .int (iI (0)))]) C 32 [1, 2, 3, 4, 0] dX7_newThing_30 (by decide) rfl rfl ?_
  have L32_1 : ∀ (fu : Nat) (j : Nat) (w' : mW) (hj : j ≤ 100) (ew : w' = vlW (nt0 w t n) (w 27 0) j) (hw' : mWF w') (hme : 100 - j < fu), Z κ (mP θ am ar w' N) 0 0 32 [(0, .ref (am)), (1, .int (iI (t))), (2, .int (iI (n))), (3, .int (iI (w 27 0))), (4, .int (iI ((j : Int))))] [] := by
    intro fu
    induction fu with
    | zero => intro j w' hj ew hw' hme; exact absurd hme (Nat.not_lt_zero _)
    | succ fu ih2 =>
      intro j w' hj ew hw' hme
      have e1 : w' 11 0 = w 11 0 := by rw [ew, vlW_k (by decide)]; unfold nt0; rw [mset_k (by decide), mset_k (by decide), mset_k (by decide)]
      have e2 : ∀ i : Int, w' 17 i = w 17 i := fun i => by rw [ew, vlW_k (by decide)]; unfold nt0; rw [mset_k (by decide), mset_k (by decide), mset_k (by decide)]
      have e3 : nt0 w t n 11 0 = w 11 0 := by unfold nt0; rw [mset_k (by decide), mset_k (by decide), mset_k (by decide)]
      have e4 : ∀ i : Int, nt0 w t n 17 i = w 17 i := fun i => by unfold nt0; rw [mset_k (by decide), mset_k (by decide), mset_k (by decide)]
      refine z_iload C 34 4 dX7_newThing_32 rfl rfl ?_
      refine z_bipush C 36 dX7_newThing_34 (by decide) rfl ?_
      refine z_icmp_ge C 80 39 dX7_newThing_36 (by decide) ⟨by omega, by omega⟩ ⟨by decide, by decide⟩ rfl (fun c3 => ?_) (fun c3 => ?_)
      · skip
        refine z_iconst C 81 dX7_newThing_80 rfl ?_
        refine z_istore (lv' := [(0, .ref (am)), (1, .int (iI (t))), (2, .int (iI (n))), (3, .int (iI (w 27 0))), (4, .int (iI (0)))]) C 83 [1, 2, 3, 4, 0] dX7_newThing_81 (by decide) rfl rfl ?_
        have L83_4 : ∀ (fu : Nat) (j : Nat) (w' : mW) (hj : j ≤ 20) (ew : w' = ilW (vlW (nt0 w t n) (w 27 0) 100) (w 27 0) (ntvI w t n) j) (hw' : mWF w') (hme : 20 - j < fu), Z κ (mP θ am ar w' N) 0 0 83 [(0, .ref (am)), (1, .int (iI (t))), (2, .int (iI (n))), (3, .int (iI (w 27 0))), (4, .int (iI ((j : Int))))] [] := by
          intro fu
          induction fu with
          | zero => intro j w' hj ew hw' hme; exact absurd hme (Nat.not_lt_zero _)
          | succ fu ih5 =>
            intro j w' hj ew hw' hme
            have e5 : ∀ i : Int, w' 4 i = w 4 i := fun i => by rw [ew, ilW_k (by decide), vlW_k (by decide)]; unfold nt0; rw [mset_k (by decide), mset_k (by decide), mset_k (by decide)]
            refine z_iload C 85 4 dX7_newThing_83 rfl rfl ?_
            refine z_bipush C 87 dX7_newThing_85 (by decide) rfl ?_
            refine z_icmp_ge C 126 90 dX7_newThing_87 (by decide) ⟨by omega, by omega⟩ ⟨by decide, by decide⟩ rfl (fun c6 => ?_) (fun c6 => ?_)
            · skip
              refine z_iload_n C 127 3 dX7_newThing_126 rfl rfl ?_
              exact z_iret C dX7_newThing_127 rfl (Nat.le_of_ble_eq_true rfl) (Nat.le_of_ble_eq_true rfl) ⟨congrArg (fun z => some (Value.int (iI z))) (rfl), (congrArg (fun w' => mP θ am ar w' N) (by rw [ew, show j = 20 by omega]; rfl))⟩
            · skip
              refine z_aload_n C 91 0 dX7_newThing_90 rfl rfl ?_
              refine m_geta C hκ 94 31 (by decide) rfl q2026 rfl dX7_newThing_91 rfl ?_
              refine z_bipush C 96 dX7_newThing_94 (by decide) rfl ?_
              refine z_iload_n C 97 3 dX7_newThing_96 rfl rfl ?_
              refine z_imul C 98 dX7_newThing_97 rfl ?_
              refine z_iload C 100 4 dX7_newThing_98 rfl rfl ?_
              refine z_iadd C 101 dX7_newThing_100 rfl ?_
              refine z_iload_n C 102 2 dX7_newThing_101 rfl rfl ?_
              refine z_iconst C 103 dX7_newThing_102 rfl ?_
              refine z_icmp_ne C 110 106 dX7_newThing_103 (by decide) r_n ⟨by decide, by decide⟩ rfl (fun c7 => ?_) (fun c7 => ?_)
              · skip
                refine z_aload_n C 111 0 dX7_newThing_110 rfl rfl ?_
                refine m_geta C hκ 114 4 (by decide) rfl q1999 rfl dX7_newThing_111 rfl ?_
                refine z_iload_n C 115 1 dX7_newThing_114 rfl rfl ?_
                refine m_iald (len := 60) C hκ hD 116 4 (by decide) rfl rfl (by omega) (by omega) dX7_newThing_115 rfl ?_
                refine z_callSF (n' := 0) (k' := 0) (As := [.int (iI (w' 4 (t)))]) (rest := [.int (iI (((20) * (w 27 0)) + ((j : Int)))), .ref (ar 31)]) C hκ hκl 119 (k7_none (w' 4 (t)) (hw'.r _ _ rfl)) dX7_newThing_116 q2242 q2243 q97 q2244 znX7_none (Nat.le_of_ble_eq_true rfl) (Nat.le_of_ble_eq_true rfl) (Nat.le_of_ble_eq_true rfl) (Nat.le_of_ble_eq_true rfl) rfl (Nat.le_of_ble_eq_true rfl) rfl rfl rfl ?_
                obtain ⟨w4, ew4⟩ : ∃ wz, mset w' 31 (((20) * (w 27 0)) + ((j : Int))) (noneI (w' 4 (t))) = wz := ⟨_, rfl⟩
                have hw4 : mWF w4 := ew4 ▸ hw'.setL (noneI_L _) rfl rfl
                refine m_last (len := 1600) (w' := w4) C hκ hD 120 31 (by decide) rfl rfl (by omega) (by omega) dX7_newThing_119 rfl ew4 ?_
                refine z_iinc (lv' := [(0, .ref (am)), (1, .int (iI (t))), (2, .int (iI (n))), (3, .int (iI (w 27 0))), (4, .int (iI (((j : Int)) + 1)))]) C 123 4 [1, 2, 3, 4, 0] dX7_newThing_120 rfl (by decide) rfl rfl ?_
                refine z_goto C 83 dX7_newThing_123 (by decide) ?_
                refine z_as (lv' := [(0, .ref (am)), (1, .int (iI (t))), (2, .int (iI (n))), (3, .int (iI (w 27 0))), (4, .int (iI (((j + 1) : Int))))]) rfl rfl rfl ?_
                exact ih5 (j + 1) (w4) (by omega) (by rw [← ew4]; simp only [ilW]; rw [← ew]; congr 1; unfold ntvI; first | rw [if_pos (by assumption)] | rw [if_neg (by assumption), e5]) hw4 (by omega)
              · skip
                refine z_lconst (x := 0) C 107 dX7_newThing_106 rfl rfl ?_
                refine z_goto C 119 dX7_newThing_107 (by decide) ?_
                obtain ⟨w5, ew5⟩ : ∃ wz, mset w' 31 (((20) * (w 27 0)) + ((j : Int))) (0) = wz := ⟨_, rfl⟩
                have hw5 : mWF w5 := ew5 ▸ hw'.setL ⟨by decide, by decide⟩ rfl rfl
                refine m_last (len := 1600) (w' := w5) C hκ hD 120 31 (by decide) rfl rfl (by omega) (by omega) dX7_newThing_119 rfl ew5 ?_
                refine z_iinc (lv' := [(0, .ref (am)), (1, .int (iI (t))), (2, .int (iI (n))), (3, .int (iI (w 27 0))), (4, .int (iI (((j : Int)) + 1)))]) C 123 4 [1, 2, 3, 4, 0] dX7_newThing_120 rfl (by decide) rfl rfl ?_
                refine z_goto C 83 dX7_newThing_123 (by decide) ?_
                refine z_as (lv' := [(0, .ref (am)), (1, .int (iI (t))), (2, .int (iI (n))), (3, .int (iI (w 27 0))), (4, .int (iI (((j + 1) : Int))))]) rfl rfl rfl ?_
                exact ih5 (j + 1) (w5) (by omega) (by rw [← ew5]; simp only [ilW]; rw [← ew]; congr 1; unfold ntvI; first | rw [if_pos (by assumption)] | rw [if_neg (by assumption), e5]) hw5 (by omega)
        refine z_as (lv' := [(0, .ref (am)), (1, .int (iI (t))), (2, .int (iI (n))), (3, .int (iI (w 27 0))), (4, .int (iI (((0) : Int))))]) rfl rfl rfl ?_
        exact L83_4 _ (0) (w') (by omega) (by rw [ew, show j = 100 by omega]; rfl) hw' (Nat.lt_succ_self _)
      · skip
        refine z_aload_n C 40 0 dX7_newThing_39 rfl rfl ?_
        refine m_geta C hκ 43 30 (by decide) rfl q2025 rfl dX7_newThing_40 rfl ?_
        refine z_bipush C 45 dX7_newThing_43 (by decide) rfl ?_
        refine z_iload_n C 46 3 dX7_newThing_45 rfl rfl ?_
        refine z_imul C 47 dX7_newThing_46 rfl ?_
        refine z_iload C 49 4 dX7_newThing_47 rfl rfl ?_
        refine z_iadd C 50 dX7_newThing_49 rfl ?_
        refine z_iload C 52 4 dX7_newThing_50 rfl rfl ?_
        refine z_aload_n C 53 0 dX7_newThing_52 rfl rfl ?_
        refine m_geti C hκ 56 11 (by decide) rfl q2006 rfl dX7_newThing_53 rfl ?_
        refine z_icmp_ge C 72 59 dX7_newThing_56 (by decide) ⟨by omega, by omega⟩ (hw'.r _ _ rfl) rfl (fun c8 => ?_) (fun c8 => ?_)
        · skip
          refine z_lconst (x := 0) C 73 dX7_newThing_72 rfl rfl ?_
          obtain ⟨w6, ew6⟩ : ∃ wz, mset w' 30 (((100) * (w 27 0)) + ((j : Int))) (0) = wz := ⟨_, rfl⟩
          have hw6 : mWF w6 := ew6 ▸ hw'.setL ⟨by decide, by decide⟩ rfl rfl
          refine m_last (len := 8000) (w' := w6) C hκ hD 74 30 (by decide) rfl rfl (by omega) (by omega) dX7_newThing_73 rfl ew6 ?_
          refine z_iinc (lv' := [(0, .ref (am)), (1, .int (iI (t))), (2, .int (iI (n))), (3, .int (iI (w 27 0))), (4, .int (iI (((j : Int)) + 1)))]) C 77 4 [1, 2, 3, 4, 0] dX7_newThing_74 rfl (by decide) rfl rfl ?_
          refine z_goto C 32 dX7_newThing_77 (by decide) ?_
          refine z_as (lv' := [(0, .ref (am)), (1, .int (iI (t))), (2, .int (iI (n))), (3, .int (iI (w 27 0))), (4, .int (iI (((j + 1) : Int))))]) rfl rfl rfl ?_
          exact ih2 (j + 1) (w6) (by omega) (by rw [← ew6]; simp only [vlW]; rw [← ew]; congr 1; clear ew; first | rw [if_neg (by omega)] | rw [if_pos (by omega), e2, e4]) hw6 (by omega)
        · skip
          refine z_aload_n C 60 0 dX7_newThing_59 rfl rfl ?_
          refine m_geta C hκ 63 17 (by decide) rfl q2012 rfl dX7_newThing_60 rfl ?_
          refine z_iload C 65 4 dX7_newThing_63 rfl rfl ?_
          refine m_iald (len := 100) C hκ hD 66 17 (by decide) rfl rfl (by omega) (by omega) dX7_newThing_65 rfl ?_
          refine z_callSF (n' := 0) (k' := 0) (As := [.int (iI (w' 17 ((j : Int))))]) (rest := [.int (iI (((100) * (w 27 0)) + ((j : Int)))), .ref (ar 30)]) C hκ hκl 69 (k7_none (w' 17 ((j : Int))) (hw'.r _ _ rfl)) dX7_newThing_66 q2242 q2243 q97 q2244 znX7_none (Nat.le_of_ble_eq_true rfl) (Nat.le_of_ble_eq_true rfl) (Nat.le_of_ble_eq_true rfl) (Nat.le_of_ble_eq_true rfl) rfl (Nat.le_of_ble_eq_true rfl) rfl rfl rfl ?_
          refine z_goto C 73 dX7_newThing_69 (by decide) ?_
          obtain ⟨w7, ew7⟩ : ∃ wz, mset w' 30 (((100) * (w 27 0)) + ((j : Int))) (noneI (w' 17 ((j : Int)))) = wz := ⟨_, rfl⟩
          have hw7 : mWF w7 := ew7 ▸ hw'.setL (noneI_L _) rfl rfl
          refine m_last (len := 8000) (w' := w7) C hκ hD 74 30 (by decide) rfl rfl (by omega) (by omega) dX7_newThing_73 rfl ew7 ?_
          refine z_iinc (lv' := [(0, .ref (am)), (1, .int (iI (t))), (2, .int (iI (n))), (3, .int (iI (w 27 0))), (4, .int (iI (((j : Int)) + 1)))]) C 77 4 [1, 2, 3, 4, 0] dX7_newThing_74 rfl (by decide) rfl rfl ?_
          refine z_goto C 32 dX7_newThing_77 (by decide) ?_
          refine z_as (lv' := [(0, .ref (am)), (1, .int (iI (t))), (2, .int (iI (n))), (3, .int (iI (w 27 0))), (4, .int (iI (((j + 1) : Int))))]) rfl rfl rfl ?_
          exact ih2 (j + 1) (w7) (by omega) (by rw [← ew7]; simp only [vlW]; rw [← ew]; congr 1; clear ew; first | rw [if_neg (by omega)] | rw [if_pos (by omega), e2, e4]) hw7 (by omega)
  refine z_as (lv' := [(0, .ref (am)), (1, .int (iI (t))), (2, .int (iI (n))), (3, .int (iI (w 27 0))), (4, .int (iI (((0) : Int))))]) rfl rfl rfl ?_
  exact L32_1 _ (0) (w3) (by omega) (by subst_vars; rfl) hw3 (Nat.lt_succ_self _)
set_option maxRecDepth 100000 in
theorem k7_object {l : Launch} {θ : zTh} {N : zMap} {am : Nat} {ar : Nat → Nat} {w : mW} (hD : mDis am ar) (hw : mWF w) (t : Int) (r_t : inR t) (hS : mS w)  : ZF θ l yX7_object cX7_object 2 (some .int) ⟨3, 0, 0, 67⟩ [.ref (am), .int (iI (t))] (mP θ am ar w N) (some (.int (iI (obI w t)))) (mP θ am ar (obW w t) N) := by
  refine z_start (own := RX7) (nm := "object") pnX7 rfl rfl (Nat.le_of_ble_eq_true rfl) ?_
  intro κ hκ hκl C
  change Z κ (mP θ am ar w N) 0 0 0 [(0, .ref (am)), (1, .int (iI (t)))] []
  have hB := hS.B
  obtain ⟨hB1, hB2, hB3, hB4, hB5, hB6⟩ := hS.B
  have hC := hS.C
  refine z_aload_n C 1 0 dX7_object_0 rfl rfl ?_
  refine z_iload_n C 2 1 dX7_object_1 rfl rfl ?_
  refine z_callVF (n' := 0) (k' := 0) (As := [.int (iI (t))]) (rest := []) C hκ hκl 5 (k7_isClass hD hw (t) r_t hB) dX7_object_2 q2156 q2158 qs39 q97 q2159 znX7_isClass (Nat.le_of_ble_eq_true rfl) (Nat.le_of_ble_eq_true rfl) (Nat.le_of_ble_eq_true rfl) (Nat.le_of_ble_eq_true rfl) mrec rfl rfl (Nat.le_of_ble_eq_true rfl) rfl rfl rfl ?_
  refine z_ifB_ne C 10 8 dX7_object_5 (by decide) rfl (fun c1 => ?_) (fun c1 => ?_)
  · skip
    have c1b : (0 ≤ (t) ∧ (t) < w 0 0 ∧ (w 1 (t) = 1 ∨ w 1 (t) = 2)) := of_decide_eq_true c1
    refine z_aload_n C 11 0 dX7_object_10 rfl rfl ?_
    refine m_geti C hκ 14 27 (by decide) rfl q2022 rfl dX7_object_11 rfl ?_
    refine z_bipush C 16 dX7_object_14 (by decide) rfl ?_
    refine z_icmp_ne C 22 19 dX7_object_16 (by decide) (hw.r _ _ rfl) ⟨by decide, by decide⟩ rfl (fun c2 => ?_) (fun c2 => ?_)
    · skip
      refine z_aload_n C 23 0 dX7_object_22 rfl rfl ?_
      refine m_geta C hκ 26 1 (by decide) rfl q1996 rfl dX7_object_23 rfl ?_
      refine z_iload_n C 27 1 dX7_object_26 rfl rfl ?_
      obtain ⟨f3a, f3b, f3c, f3d, f3e, f3f, f3g, f3h⟩ := hS.T (show 0 ≤ t by omega) (by omega)
      refine m_iald (len := 60) C hκ hD 28 1 (by decide) rfl rfl (by omega) (by omega) dX7_object_27 rfl ?_
      refine z_iconst C 29 dX7_object_28 rfl ?_
      refine z_icmp_ne C 37 32 dX7_object_29 (by decide) (hw.r _ _ rfl) ⟨by decide, by decide⟩ rfl (fun c4 => ?_) (fun c4 => ?_)
      · skip
        refine z_aload_n C 38 0 dX7_object_37 rfl rfl ?_
        refine z_iload_n C 39 1 dX7_object_38 rfl rfl ?_
        refine z_iconst C 40 dX7_object_39 rfl ?_
        refine z_callVF (n' := 0) (k' := 0) (As := [.int (iI (t)), .int (iI (-1))]) (rest := []) C hκ hκl 43 (k7_newThing hD hw (t) (-1) r_t ⟨by decide, by decide⟩ (by omega) (by omega) (by omega)) dX7_object_40 q2361 q2363 qs66 q97 q2364 znX7_newThing (Nat.le_of_ble_eq_true rfl) (Nat.le_of_ble_eq_true rfl) (Nat.le_of_ble_eq_true rfl) (Nat.le_of_ble_eq_true rfl) mrec rfl rfl (Nat.le_of_ble_eq_true rfl) rfl rfl rfl ?_
        obtain ⟨w1, ew1⟩ : ∃ wz, nthW w (t) (-1) = wz := ⟨_, rfl⟩
        rw [ew1]
        have hw1 : mWF w1 := ew1 ▸ (nthW_wf hw r_t ⟨by decide, by decide⟩ (by omega))
        exact z_iret C dX7_object_43 rfl (Nat.le_of_ble_eq_true rfl) (Nat.le_of_ble_eq_true rfl) ⟨congrArg (fun z => some (Value.int (iI z))) (by clear C hκ hκl hS hB hB1 hB2 hB3 hB4 hB5 hB6 hC hD hw f3a f3b f3c f3d f3e f3f f3g f3h; unfold obI; simp_all), (congrArg (fun w' => mP θ am ar w' N) (by clear C hκ hκl hS hB hB1 hB2 hB3 hB4 hB5 hB6 hC hD hw f3a f3b f3c f3d f3e f3f f3g f3h; unfold obW obB; simp_all))⟩
      · skip
        refine z_bipush C 34 dX7_object_32 (by decide) rfl ?_
        refine z_goto C 43 dX7_object_34 (by decide) ?_
        exact z_iret C dX7_object_43 rfl (Nat.le_of_ble_eq_true rfl) (Nat.le_of_ble_eq_true rfl) ⟨congrArg (fun z => some (Value.int (iI z))) (by clear C hκ hκl hS hB hB1 hB2 hB3 hB4 hB5 hB6 hC hD hw f3a f3b f3c f3d f3e f3f f3g f3h; unfold obI; simp_all), (congrArg (fun w' => mP θ am ar w' N) (by clear C hκ hκl hS hB hB1 hB2 hB3 hB4 hB5 hB6 hC hD hw f3a f3b f3c f3d f3e f3f f3g f3h; unfold obW obB; simp_all))⟩
    · skip
      refine z_bipush C 21 dX7_object_19 (by decide) rfl ?_
      exact z_iret C dX7_object_21 rfl (Nat.le_of_ble_eq_true rfl) (Nat.le_of_ble_eq_true rfl) ⟨congrArg (fun z => some (Value.int (iI z))) (by clear C hκ hκl hS hB hB1 hB2 hB3 hB4 hB5 hB6 hC hD hw; unfold obI; simp_all), (congrArg (fun w' => mP θ am ar w' N) (by clear C hκ hκl hS hB hB1 hB2 hB3 hB4 hB5 hB6 hC hD hw; unfold obW obB; simp_all))⟩
  · skip
    have c1b : ¬ (0 ≤ (t) ∧ (t) < w 0 0 ∧ (w 1 (t) = 1 ∨ w 1 (t) = 2)) := of_decide_eq_false c1
    refine z_iconst C 9 dX7_object_8 rfl ?_
    exact z_iret C dX7_object_9 rfl (Nat.le_of_ble_eq_true rfl) (Nat.le_of_ble_eq_true rfl) ⟨congrArg (fun z => some (Value.int (iI z))) (by clear C hκ hκl hS hB hB1 hB2 hB3 hB4 hB5 hB6 hC hD hw; unfold obI; simp_all), (congrArg (fun w' => mP θ am ar w' N) (by clear C hκ hκl hS hB hB1 hB2 hB3 hB4 hB5 hB6 hC hD hw; unfold obW obB; simp_all))⟩
set_option maxRecDepth 100000 in
theorem k7_row {l : Launch} {θ : zTh} {N : zMap} {am : Nat} {ar : Nat → Nat} {w : mW} (hD : mDis am ar) (hw : mWF w) (t : Int) (n : Int) (r_t : inR t) (r_n : inR n) (hS : mS w)  : ZF θ l yX7_row cX7_row 3 (some .int) ⟨2, 0, 0, 46⟩ [.ref (am), .int (iI (t)), .int (iI (n))] (mP θ am ar w N) (some (.int (iI (roI w t n)))) (mP θ am ar (roW w t n) N) := by
  refine z_start (own := RX7) (nm := "row") pnX7 rfl rfl (Nat.le_of_ble_eq_true rfl) ?_
  intro κ hκ hκl C
  change Z κ (mP θ am ar w N) 0 0 0 [(0, .ref (am)), (1, .int (iI (t))), (2, .int (iI (n)))] []
  have hB := hS.B
  obtain ⟨hB1, hB2, hB3, hB4, hB5, hB6⟩ := hS.B
  have hC := hS.C
  refine z_aload_n C 1 0 dX7_row_0 rfl rfl ?_
  refine z_iload_n C 2 1 dX7_row_1 rfl rfl ?_
  refine z_callVF (n' := 0) (k' := 0) (As := [.int (iI (t))]) (rest := []) C hκ hκl 5 (k7_isType hD hw (t) r_t hB) dX7_row_2 q2160 q2162 qs40 q97 q2163 znX7_isType (Nat.le_of_ble_eq_true rfl) (Nat.le_of_ble_eq_true rfl) (Nat.le_of_ble_eq_true rfl) (Nat.le_of_ble_eq_true rfl) mrec rfl rfl (Nat.le_of_ble_eq_true rfl) rfl rfl rfl ?_
  refine z_ifB_eq C 24 8 dX7_row_5 (by decide) rfl (fun c1 => ?_) (fun c1 => ?_)
  · skip
    have c1b : ¬ (0 ≤ (t) ∧ (t) < w 0 0) := of_decide_eq_false c1
    refine z_iconst C 25 dX7_row_24 rfl ?_
    exact z_iret C dX7_row_25 rfl (Nat.le_of_ble_eq_true rfl) (Nat.le_of_ble_eq_true rfl) ⟨congrArg (fun z => some (Value.int (iI z))) (by clear C hκ hκl hS hB hB1 hB2 hB3 hB4 hB5 hB6 hC hD hw; unfold roI roB; first | (simp_all; done) | grind), (congrArg (fun w' => mP θ am ar w' N) (by clear C hκ hκl hS hB hB1 hB2 hB3 hB4 hB5 hB6 hC hD hw; unfold roW roB; first | (simp_all; done) | grind))⟩
  · skip
    have c1b : (0 ≤ (t) ∧ (t) < w 0 0) := of_decide_eq_true c1
    refine z_aload_n C 9 0 dX7_row_8 rfl rfl ?_
    refine m_geta C hκ 12 1 (by decide) rfl q1996 rfl dX7_row_9 rfl ?_
    refine z_iload_n C 13 1 dX7_row_12 rfl rfl ?_
    obtain ⟨f2a, f2b, f2c, f2d, f2e, f2f, f2g, f2h⟩ := hS.T (show 0 ≤ t by omega) (by omega)
    refine m_iald (len := 60) C hκ hD 14 1 (by decide) rfl rfl (by omega) (by omega) dX7_row_13 rfl ?_
    refine z_iconst C 15 dX7_row_14 rfl ?_
    refine z_icmp_ne C 24 18 dX7_row_15 (by decide) (hw.r _ _ rfl) ⟨by decide, by decide⟩ rfl (fun c3 => ?_) (fun c3 => ?_)
    · skip
      refine z_iconst C 25 dX7_row_24 rfl ?_
      exact z_iret C dX7_row_25 rfl (Nat.le_of_ble_eq_true rfl) (Nat.le_of_ble_eq_true rfl) ⟨congrArg (fun z => some (Value.int (iI z))) (by clear C hκ hκl hS hB hB1 hB2 hB3 hB4 hB5 hB6 hC hD hw f2a f2b f2c f2d f2e f2f f2g f2h; unfold roI roB; first | (simp_all; done) | grind), (congrArg (fun w' => mP θ am ar w' N) (by clear C hκ hκl hS hB hB1 hB2 hB3 hB4 hB5 hB6 hC hD hw f2a f2b f2c f2d f2e f2f f2g f2h; unfold roW roB; first | (simp_all; done) | grind))⟩
    · skip
      refine z_iload_n C 19 2 dX7_row_18 rfl rfl ?_
      refine z_bipush C 21 dX7_row_19 (by decide) rfl ?_
      refine z_icmp_le C 26 24 dX7_row_21 (by decide) r_n ⟨by decide, by decide⟩ rfl (fun c4 => ?_) (fun c4 => ?_)
      · skip
        refine z_aload_n C 27 0 dX7_row_26 rfl rfl ?_
        refine m_geti C hκ 30 27 (by decide) rfl q2022 rfl dX7_row_27 rfl ?_
        refine z_bipush C 32 dX7_row_30 (by decide) rfl ?_
        refine z_icmp_ne C 38 35 dX7_row_32 (by decide) (hw.r _ _ rfl) ⟨by decide, by decide⟩ rfl (fun c5 => ?_) (fun c5 => ?_)
        · skip
          refine z_iload_n C 39 2 dX7_row_38 rfl rfl ?_
          refine z_if_ge C 47 42 dX7_row_39 (by decide) r_n rfl (fun c6 => ?_) (fun c6 => ?_)
          · skip
            refine z_aload_n C 48 0 dX7_row_47 rfl rfl ?_
            refine z_iload_n C 49 1 dX7_row_48 rfl rfl ?_
            refine z_iload_n C 50 2 dX7_row_49 rfl rfl ?_
            refine z_callVF (n' := 0) (k' := 0) (As := [.int (iI (t)), .int (iI (n))]) (rest := []) C hκ hκl 53 (k7_newThing hD hw (t) (n) r_t r_n (by omega) (by omega) (by omega)) dX7_row_50 q2361 q2363 qs66 q97 q2364 znX7_newThing (Nat.le_of_ble_eq_true rfl) (Nat.le_of_ble_eq_true rfl) (Nat.le_of_ble_eq_true rfl) (Nat.le_of_ble_eq_true rfl) mrec rfl rfl (Nat.le_of_ble_eq_true rfl) rfl rfl rfl ?_
            obtain ⟨w1, ew1⟩ : ∃ wz, nthW w (t) (n) = wz := ⟨_, rfl⟩
            rw [ew1]
            have hw1 : mWF w1 := ew1 ▸ (nthW_wf hw r_t r_n (by omega))
            exact z_iret C dX7_row_53 rfl (Nat.le_of_ble_eq_true rfl) (Nat.le_of_ble_eq_true rfl) ⟨congrArg (fun z => some (Value.int (iI z))) (by clear C hκ hκl hS hB hB1 hB2 hB3 hB4 hB5 hB6 hC hD hw f2a f2b f2c f2d f2e f2f f2g f2h; unfold roI roB; first | (simp_all; done) | grind), (congrArg (fun w' => mP θ am ar w' N) (by clear C hκ hκl hS hB hB1 hB2 hB3 hB4 hB5 hB6 hC hD hw f2a f2b f2c f2d f2e f2f f2g f2h; unfold roW roB; first | (simp_all; done) | grind))⟩
          · skip
            refine z_bipush C 44 dX7_row_42 (by decide) rfl ?_
            refine z_goto C 53 dX7_row_44 (by decide) ?_
            exact z_iret C dX7_row_53 rfl (Nat.le_of_ble_eq_true rfl) (Nat.le_of_ble_eq_true rfl) ⟨congrArg (fun z => some (Value.int (iI z))) (by clear C hκ hκl hS hB hB1 hB2 hB3 hB4 hB5 hB6 hC hD hw f2a f2b f2c f2d f2e f2f f2g f2h; unfold roI roB; first | (simp_all; done) | grind), (congrArg (fun w' => mP θ am ar w' N) (by clear C hκ hκl hS hB hB1 hB2 hB3 hB4 hB5 hB6 hC hD hw f2a f2b f2c f2d f2e f2f f2g f2h; unfold roW roB; first | (simp_all; done) | grind))⟩
        · skip
          refine z_bipush C 37 dX7_row_35 (by decide) rfl ?_
          exact z_iret C dX7_row_37 rfl (Nat.le_of_ble_eq_true rfl) (Nat.le_of_ble_eq_true rfl) ⟨congrArg (fun z => some (Value.int (iI z))) (by clear C hκ hκl hS hB hB1 hB2 hB3 hB4 hB5 hB6 hC hD hw f2a f2b f2c f2d f2e f2f f2g f2h; unfold roI roB; first | (simp_all; done) | grind), (congrArg (fun w' => mP θ am ar w' N) (by clear C hκ hκl hS hB hB1 hB2 hB3 hB4 hB5 hB6 hC hD hw f2a f2b f2c f2d f2e f2f f2g f2h; unfold roW roB; first | (simp_all; done) | grind))⟩
      · skip
        refine z_iconst C 25 dX7_row_24 rfl ?_
        exact z_iret C dX7_row_25 rfl (Nat.le_of_ble_eq_true rfl) (Nat.le_of_ble_eq_true rfl) ⟨congrArg (fun z => some (Value.int (iI z))) (by clear C hκ hκl hS hB hB1 hB2 hB3 hB4 hB5 hB6 hC hD hw f2a f2b f2c f2d f2e f2f f2g f2h; unfold roI roB; first | (simp_all; done) | grind), (congrArg (fun w' => mP θ am ar w' N) (by clear C hκ hκl hS hB hB1 hB2 hB3 hB4 hB5 hB6 hC hD hw f2a f2b f2c f2d f2e f2f f2g f2h; unfold roW roB; first | (simp_all; done) | grind))⟩
