/-! ===== the Model: bodies ===== -/
def ipB (w : mW) (m i : Int) : Bool := decide (0 ≤ i ∧ i < w 18 m)
def inB (w : mW) (m i : Int) : Bool := decide ((0 ≤ i ∧ i < w 18 m) ∧ 1 ≤ w 19 (3 * m + i) ∧ w 19 (3 * m + i) ≤ 7)
def reB (w : mW) (m o : Int) : Bool := hasB w o 4 || (!hasB w m 4 && isa w (w 13 m) (w 13 o))
def mcK (w : mW) (m x : Int) : Bool := mtB w x && reB w m x && decide (w 18 x ≤ w 18 m)
def mcP (w : mW) (m x : Int) : Nat → Bool := fun k => giB w (w 19 (3 * m + k)) (w 19 (3 * x + k))
def mcF (w : mW) (m x : Int) : Bool := mcK w m x && allN (mcP w m x) (w 18 x).toNat
/-- the same but for what the Model alone keeps of a question -/
def sR (w w' : mW) : Prop := ∀ (k : Nat) (i : Int), (k < 40 ∨ 44 < k) → w' k i = w k i
theorem sR.refl {w : mW} : sR w w := fun _ _ _ => rfl
theorem sQ.R {w w' : mW} (h : sQ w w') : sR w w' := fun k i hk => h k i (by omega) (by omega) (by omega)
theorem sR.set {w w' : mW} (h : sR w w') {k : Nat} {i v : Int} (hk : 40 ≤ k ∧ k ≤ 44) : sR w (mset w' k i v) := fun k' i' a => by rw [mset_k (by omega)]; exact h k' i' a
theorem sR.both {w w' : mW} (h : sR w w') {k : Nat} {i v : Int} : sR (mset w k i v) (mset w' k i v) := fun k' i' a => by
  by_cases e : k' = k
  · subst e
    by_cases e2 : i' = i
    · subst e2; rw [mset_s, mset_s]
    · rw [mset_i e2, mset_i e2]; exact h k' i' a
  · rw [mset_k e, mset_k e]; exact h k' i' a
def guN (w : mW) (m : Int) : Int := if w 2 (w 13 m) = -1 then -1 else fnI w (w 2 (w 13 m)) m 2
def guB (w : mW) (m : Int) : Bool := decide (guN w m ≠ -1) && !hasB w (guN w m) 16 && !hasB w (guN w m) 4 && !prB w (guN w m)
theorem prB_q {w w' : mW} (q : sQ w w') {m : Int} : prB w' m = prB w m := by unfold prB; rw [whoI_q q]

set_option maxRecDepth 100000 in
theorem k7_isParam {l : Launch} {θ : zTh} {N : zMap} {am : Nat} {ar : Nat → Nat} {w : mW} (hD : mDis am ar) (hw : mWF w) (m : Int) (i : Int) (r_m : inR m) (r_i : inR i) (hS : mS w) (hm : 0 ≤ m ∧ m < w 11 0) : ZF θ l yX7_isParam cX7_isParam 3 (some .boolean) ⟨1, 0, 0, 25⟩ [.ref (am), .int (iI (m)), .int (iI (i))] (mP θ am ar w N) (some (.int (iI (bI (ipB w m i))))) (mP θ am ar w N) := by
  refine z_start (own := RX7) (nm := "isParam") pnX7 rfl rfl (Nat.le_of_ble_eq_true rfl) ?_
  intro κ hκ hκl C
  change Z κ (mP θ am ar w N) 0 0 0 [(0, .ref (am)), (1, .int (iI (m))), (2, .int (iI (i)))] []
  have hB := hS.B
  obtain ⟨hB1, hB2, hB3, hB4, hB5, hB6⟩ := hS.B
  have hC := hS.C
  refine z_iload_n C 1 2 dX7_isParam_0 rfl rfl ?_
  refine z_i2l C 2 dX7_isParam_1 r_i rfl ?_
  refine z_lconst (x := 0) C 3 dX7_isParam_2 rfl rfl ?_
  refine z_aload_n C 4 0 dX7_isParam_3 rfl rfl ?_
  refine m_geta C hκ 7 18 (by decide) rfl q2013 rfl dX7_isParam_4 rfl ?_
  refine z_iload_n C 8 1 dX7_isParam_7 rfl rfl ?_
  obtain ⟨f1a, f1b, f1c, f1d⟩ := hS.M (show 0 ≤ m by omega) (by omega)
  refine m_iald (len := 100) C hκ hD 9 18 (by decide) rfl rfl (by omega) (by omega) dX7_isParam_8 rfl ?_
  refine z_iconst C 10 dX7_isParam_9 rfl ?_
  refine z_isub C 11 dX7_isParam_10 rfl ?_
  refine z_i2l C 12 dX7_isParam_11 ⟨by omega, by omega⟩ rfl ?_
  refine z_callSF (n' := 0) (k' := 0) (As := [.long (lI (i)), .long (lI (0)), .long (lI ((w 18 (m)) - (1)))]) (rest := []) C hκ hκl 15 (k7_in (i) (0) ((w 18 (m)) - (1)) (inR_L r_i) ⟨by decide, by decide⟩ ⟨by omega, by omega⟩) dX7_isParam_12 q2164 q2165 q97 q2166 znX7_in (Nat.le_of_ble_eq_true rfl) (Nat.le_of_ble_eq_true rfl) (Nat.le_of_ble_eq_true rfl) (Nat.le_of_ble_eq_true rfl) rfl (Nat.le_of_ble_eq_true rfl) rfl rfl rfl ?_
  exact z_iret C dX7_isParam_15 (bI_nar _) (Nat.le_of_ble_eq_true rfl) (Nat.le_of_ble_eq_true rfl) ⟨congrArg (fun b => some (Value.int (iI (bI b)))) (by unfold ipB; congr 1; apply propext; constructor <;> intro h <;> omega), rfl⟩
set_option maxRecDepth 100000 in
theorem k7_isNumber {l : Launch} {θ : zTh} {N : zMap} {am : Nat} {ar : Nat → Nat} {w : mW} (hD : mDis am ar) (hw : mWF w) (m : Int) (i : Int) (r_m : inR m) (r_i : inR i) (hS : mS w) (hm : 0 ≤ m ∧ m < w 11 0) : ZF θ l yX7_isNumber cX7_isNumber 3 (some .boolean) ⟨2, 0, 0, 47⟩ [.ref (am), .int (iI (m)), .int (iI (i))] (mP θ am ar w N) (some (.int (iI (bI (inB w m i))))) (mP θ am ar w N) := by
  refine z_start (own := RX7) (nm := "isNumber") pnX7 rfl rfl (Nat.le_of_ble_eq_true rfl) ?_
  intro κ hκ hκl C
  change Z κ (mP θ am ar w N) 0 0 0 [(0, .ref (am)), (1, .int (iI (m))), (2, .int (iI (i)))] []
  have hB := hS.B
  obtain ⟨hB1, hB2, hB3, hB4, hB5, hB6⟩ := hS.B
  have hC := hS.C
  refine z_aload_n C 1 0 dX7_isNumber_0 rfl rfl ?_
  refine z_iload_n C 2 1 dX7_isNumber_1 rfl rfl ?_
  refine z_iload_n C 3 2 dX7_isNumber_2 rfl rfl ?_
  refine z_callVF (n' := 0) (k' := 0) (As := [.int (iI (m)), .int (iI (i))]) (rest := []) C hκ hκl 6 (k7_isParam hD hw (m) (i) r_m r_i hS (by omega)) dX7_isNumber_3 q2497 q2499 qs76 q97 q2500 znX7_isParam (Nat.le_of_ble_eq_true rfl) (Nat.le_of_ble_eq_true rfl) (Nat.le_of_ble_eq_true rfl) (Nat.le_of_ble_eq_true rfl) mrec rfl rfl (Nat.le_of_ble_eq_true rfl) rfl rfl rfl ?_
  refine z_ifB_eq C 34 9 dX7_isNumber_6 (by decide) rfl (fun c1 => ?_) (fun c1 => ?_)
  · skip
    have c1b : ¬ (0 ≤ (i) ∧ (i) < w 18 (m)) := of_decide_eq_false c1
    refine z_iconst C 35 dX7_isNumber_34 rfl ?_
    refine z_as (st' := [.int (iI (bI (false)))]) rfl rfl rfl ?_
    exact z_iret C dX7_isNumber_35 (bI_nar _) (Nat.le_of_ble_eq_true rfl) (Nat.le_of_ble_eq_true rfl) ⟨congrArg (fun b => some (Value.int (iI (bI b)))) (by clear C hκ hκl hS hB hB1 hB2 hB3 hB4 hB5 hB6 hC hD hw; unfold inB; first | (simp_all [ipB]; done) | grind [ipB] | (simp_all [ipB] <;> omega)), rfl⟩
  · skip
    have c1b : (0 ≤ (i) ∧ (i) < w 18 (m)) := of_decide_eq_true c1
    obtain ⟨f2a, f2b, f2c, f2d⟩ := hS.M (show 0 ≤ m by omega) (by omega)
    refine z_aload_n C 10 0 dX7_isNumber_9 rfl rfl ?_
    refine m_geta C hκ 13 19 (by decide) rfl q2014 rfl dX7_isNumber_10 rfl ?_
    refine z_iconst C 14 dX7_isNumber_13 rfl ?_
    refine z_iload_n C 15 1 dX7_isNumber_14 rfl rfl ?_
    refine z_imul C 16 dX7_isNumber_15 rfl ?_
    refine z_iload_n C 17 2 dX7_isNumber_16 rfl rfl ?_
    refine z_iadd C 18 dX7_isNumber_17 rfl ?_
    refine m_iald (len := 300) C hκ hD 19 19 (by decide) rfl rfl (by omega) (by omega) dX7_isNumber_18 rfl ?_
    refine z_i2l C 20 dX7_isNumber_19 (hw.r _ _ rfl) rfl ?_
    refine z_lconst (x := 1) C 21 dX7_isNumber_20 rfl rfl ?_
    refine z_ldc2 (z := 7) C 24 dX7_isNumber_21 q2380 (by decide) rfl ?_
    refine z_callSF (n' := 0) (k' := 0) (As := [.long (lI (w 19 (((3) * (m)) + (i)))), .long (lI (1)), .long (lI (7))]) (rest := []) C hκ hκl 27 (k7_in (w 19 (((3) * (m)) + (i))) (1) (7) (hw.l _ _) ⟨by decide, by decide⟩ ⟨by decide, by decide⟩) dX7_isNumber_24 q2164 q2165 q97 q2166 znX7_in (Nat.le_of_ble_eq_true rfl) (Nat.le_of_ble_eq_true rfl) (Nat.le_of_ble_eq_true rfl) (Nat.le_of_ble_eq_true rfl) rfl (Nat.le_of_ble_eq_true rfl) rfl rfl rfl ?_
    refine z_ifB_eq C 34 30 dX7_isNumber_27 (by decide) rfl (fun c3 => ?_) (fun c3 => ?_)
    · skip
      have c3b : ¬ (((1) ≤ (w 19 (((3) * (m)) + (i))) ∧ (w 19 (((3) * (m)) + (i))) ≤ (7))) := of_decide_eq_false c3
      refine z_iconst C 35 dX7_isNumber_34 rfl ?_
      refine z_as (st' := [.int (iI (bI (false)))]) rfl rfl rfl ?_
      exact z_iret C dX7_isNumber_35 (bI_nar _) (Nat.le_of_ble_eq_true rfl) (Nat.le_of_ble_eq_true rfl) ⟨congrArg (fun b => some (Value.int (iI (bI b)))) (by clear C hκ hκl hS hB hB1 hB2 hB3 hB4 hB5 hB6 hC hD hw f2a f2b f2c f2d; unfold inB; first | (simp_all [ipB]; done) | grind [ipB] | (simp_all [ipB] <;> omega)), rfl⟩
    · skip
      have c3b : (((1) ≤ (w 19 (((3) * (m)) + (i))) ∧ (w 19 (((3) * (m)) + (i))) ≤ (7))) := of_decide_eq_true c3
      refine z_iconst C 31 dX7_isNumber_30 rfl ?_
      refine z_goto C 35 dX7_isNumber_31 (by decide) ?_
      refine z_as (st' := [.int (iI (bI (true)))]) rfl rfl rfl ?_
      exact z_iret C dX7_isNumber_35 (bI_nar _) (Nat.le_of_ble_eq_true rfl) (Nat.le_of_ble_eq_true rfl) ⟨congrArg (fun b => some (Value.int (iI (bI b)))) (by clear C hκ hκl hS hB hB1 hB2 hB3 hB4 hB5 hB6 hC hD hw f2a f2b f2c f2d; unfold inB; first | (simp_all [ipB]; done) | grind [ipB] | (simp_all [ipB] <;> omega)), rfl⟩
set_option maxRecDepth 100000 in
theorem k7_reaches {l : Launch} {θ : zTh} {N : zMap} {am : Nat} {ar : Nat → Nat} {w : mW} (hD : mDis am ar) (hw : mWF w) (m : Int) (o : Int) (r_m : inR m) (r_o : inR o) (hS : mS w) (hm : 0 ≤ m ∧ m < w 11 0) (ho : 0 ≤ o ∧ o < w 11 0) : ZF θ l yX7_reaches cX7_reaches 3 (some .boolean) ⟨1, 0, 0, 22⟩ [.ref (am), .int (iI (m)), .int (iI (o))] (mP θ am ar w N) (some (.int (iI (bI (reB w m o))))) (mP θ am ar w N) := by
  refine z_start (own := RX7) (nm := "reaches") pnX7 rfl rfl (Nat.le_of_ble_eq_true rfl) ?_
  intro κ hκ hκl C
  change Z κ (mP θ am ar w N) 0 0 0 [(0, .ref (am)), (1, .int (iI (m))), (2, .int (iI (o)))] []
  have hB := hS.B
  obtain ⟨hB1, hB2, hB3, hB4, hB5, hB6⟩ := hS.B
  have hC := hS.C
  refine z_aload_n C 1 0 dX7_reaches_0 rfl rfl ?_
  refine z_iload_n C 2 2 dX7_reaches_1 rfl rfl ?_
  refine z_iconst C 3 dX7_reaches_2 rfl ?_
  refine z_callVF (n' := 0) (k' := 0) (As := [.int (iI (o)), .int (iI (4))]) (rest := []) C hκ hκl 6 (k7_has hD hw (o) (4) r_o ⟨by decide, by decide⟩ (by omega)) dX7_reaches_3 q2271 q2273 qs53 q97 q2274 znX7_has (Nat.le_of_ble_eq_true rfl) (Nat.le_of_ble_eq_true rfl) (Nat.le_of_ble_eq_true rfl) (Nat.le_of_ble_eq_true rfl) mrec rfl rfl (Nat.le_of_ble_eq_true rfl) rfl rfl rfl ?_
  refine z_ifB_ne C 37 9 dX7_reaches_6 (by decide) rfl (fun c1 => ?_) (fun c1 => ?_)
  · skip
    refine z_iconst C 38 dX7_reaches_37 rfl ?_
    refine z_goto C 42 dX7_reaches_38 (by decide) ?_
    refine z_as (st' := [.int (iI (bI (true)))]) rfl rfl rfl ?_
    exact z_iret C dX7_reaches_42 (bI_nar _) (Nat.le_of_ble_eq_true rfl) (Nat.le_of_ble_eq_true rfl) ⟨congrArg (fun b => some (Value.int (iI (bI b)))) (by clear C hκ hκl hS hB hB1 hB2 hB3 hB4 hB5 hB6 hC hD hw; unfold reB; first | (simp_all; done) | grind | (simp_all <;> omega)), rfl⟩
  · skip
    refine z_aload_n C 10 0 dX7_reaches_9 rfl rfl ?_
    refine z_iload_n C 11 1 dX7_reaches_10 rfl rfl ?_
    refine z_iconst C 12 dX7_reaches_11 rfl ?_
    refine z_callVF (n' := 0) (k' := 0) (As := [.int (iI (m)), .int (iI (4))]) (rest := []) C hκ hκl 15 (k7_has hD hw (m) (4) r_m ⟨by decide, by decide⟩ (by omega)) dX7_reaches_12 q2271 q2273 qs53 q97 q2274 znX7_has (Nat.le_of_ble_eq_true rfl) (Nat.le_of_ble_eq_true rfl) (Nat.le_of_ble_eq_true rfl) (Nat.le_of_ble_eq_true rfl) mrec rfl rfl (Nat.le_of_ble_eq_true rfl) rfl rfl rfl ?_
    refine z_ifB_ne C 41 18 dX7_reaches_15 (by decide) rfl (fun c2 => ?_) (fun c2 => ?_)
    · skip
      refine z_iconst C 42 dX7_reaches_41 rfl ?_
      refine z_as (st' := [.int (iI (bI (false)))]) rfl rfl rfl ?_
      exact z_iret C dX7_reaches_42 (bI_nar _) (Nat.le_of_ble_eq_true rfl) (Nat.le_of_ble_eq_true rfl) ⟨congrArg (fun b => some (Value.int (iI (bI b)))) (by clear C hκ hκl hS hB hB1 hB2 hB3 hB4 hB5 hB6 hC hD hw; unfold reB; first | (simp_all; done) | grind | (simp_all <;> omega)), rfl⟩
    · skip
      refine z_aload_n C 19 0 dX7_reaches_18 rfl rfl ?_
      refine z_aload_n C 20 0 dX7_reaches_19 rfl rfl ?_
      refine m_geta C hκ 23 13 (by decide) rfl q2008 rfl dX7_reaches_20 rfl ?_
      refine z_iload_n C 24 1 dX7_reaches_23 rfl rfl ?_
      obtain ⟨f3a, f3b, f3c, f3d⟩ := hS.M (show 0 ≤ m by omega) (by omega)
      refine m_iald (len := 100) C hκ hD 25 13 (by decide) rfl rfl (by omega) (by omega) dX7_reaches_24 rfl ?_
      refine z_aload_n C 26 0 dX7_reaches_25 rfl rfl ?_
      refine m_geta C hκ 29 13 (by decide) rfl q2008 rfl dX7_reaches_26 rfl ?_
      refine z_iload_n C 30 2 dX7_reaches_29 rfl rfl ?_
      obtain ⟨f4a, f4b, f4c, f4d⟩ := hS.M (show 0 ≤ o by omega) (by omega)
      refine m_iald (len := 100) C hκ hD 31 13 (by decide) rfl rfl (by omega) (by omega) dX7_reaches_30 rfl ?_
      refine z_callVF (n' := 0) (k' := 0) (As := [.int (iI (w 13 (m))), .int (iI (w 13 (o)))]) (rest := []) C hκ hκl 34 (k7_isOne hD hw (w 13 (m)) (w 13 (o)) (hw.r _ _ rfl) (hw.r _ _ rfl) (by omega) (by omega)) dX7_reaches_31 q2197 q2199 qs44 q97 q2200 znX7_isOne (Nat.le_of_ble_eq_true rfl) (Nat.le_of_ble_eq_true rfl) (Nat.le_of_ble_eq_true rfl) (Nat.le_of_ble_eq_true rfl) mrec rfl rfl (Nat.le_of_ble_eq_true rfl) rfl rfl rfl ?_
      refine z_ifB_eq C 41 37 dX7_reaches_34 (by decide) rfl (fun c5 => ?_) (fun c5 => ?_)
      · skip
        refine z_iconst C 42 dX7_reaches_41 rfl ?_
        refine z_as (st' := [.int (iI (bI (false)))]) rfl rfl rfl ?_
        exact z_iret C dX7_reaches_42 (bI_nar _) (Nat.le_of_ble_eq_true rfl) (Nat.le_of_ble_eq_true rfl) ⟨congrArg (fun b => some (Value.int (iI (bI b)))) (by clear C hκ hκl hS hB hB1 hB2 hB3 hB4 hB5 hB6 hC hD hw f3a f3b f3c f3d f4a f4b f4c f4d; unfold reB; first | (simp_all; done) | grind | (simp_all <;> omega)), rfl⟩
      · skip
        refine z_iconst C 38 dX7_reaches_37 rfl ?_
        refine z_goto C 42 dX7_reaches_38 (by decide) ?_
        refine z_as (st' := [.int (iI (bI (true)))]) rfl rfl rfl ?_
        exact z_iret C dX7_reaches_42 (bI_nar _) (Nat.le_of_ble_eq_true rfl) (Nat.le_of_ble_eq_true rfl) ⟨congrArg (fun b => some (Value.int (iI (bI b)))) (by clear C hκ hκl hS hB hB1 hB2 hB3 hB4 hB5 hB6 hC hD hw f3a f3b f3c f3d f4a f4b f4c f4d; unfold reB; first | (simp_all; done) | grind | (simp_all <;> omega)), rfl⟩
set_option maxRecDepth 100000 in
theorem k7_mayCallFrom {l : Launch} {θ : zTh} {N : zMap} {am : Nat} {ar : Nat → Nat} {w : mW} (hD : mDis am ar) (hw : mWF w) (m : Int) (x : Int) (r_m : inR m) (r_x : inR x) (hS : mS w) (hm : 0 ≤ m ∧ m < w 11 0) : ZF θ l yX7_mayCallFrom cX7_mayCallFrom 5 (some .boolean) ⟨3, 0, 0, 67⟩ [.ref (am), .int (iI (m)), .int (iI (x))] (mP θ am ar w N) (some (.int (iI (bI (mcF w m x))))) (mP θ am ar (if mcK w m x then mset w 44 0 (w 17 x) else w) N) := by
  refine z_start (own := RX7) (nm := "mayCallFrom") pnX7 rfl rfl (Nat.le_of_ble_eq_true rfl) ?_
  intro κ hκ hκl C
  change Z κ (mP θ am ar w N) 0 0 0 [(0, .ref (am)), (1, .int (iI (m))), (2, .int (iI (x)))] []
  have hB := hS.B
  obtain ⟨hB1, hB2, hB3, hB4, hB5, hB6⟩ := hS.B
  have hC := hS.C
  refine z_aload_n C 1 0 dX7_mayCallFrom_0 rfl rfl ?_
  refine z_iload_n C 2 2 dX7_mayCallFrom_1 rfl rfl ?_
  refine z_callVF (n' := 0) (k' := 0) (As := [.int (iI (x))]) (rest := []) C hκ hκl 5 (k7_isMethod hD hw (x) r_x hB) dX7_mayCallFrom_2 q2304 q2306 qs59 q97 q2307 znX7_isMethod (Nat.le_of_ble_eq_true rfl) (Nat.le_of_ble_eq_true rfl) (Nat.le_of_ble_eq_true rfl) (Nat.le_of_ble_eq_true rfl) mrec rfl rfl (Nat.le_of_ble_eq_true rfl) rfl rfl rfl ?_
  refine z_ifB_eq C 32 8 dX7_mayCallFrom_5 (by decide) rfl (fun c1 => ?_) (fun c1 => ?_)
  · skip
    have c1b : ¬ (0 ≤ (x) ∧ (x) < w 11 0 ∧ w 16 (x) ≠ 1) := of_decide_eq_false c1
    refine z_iconst C 33 dX7_mayCallFrom_32 rfl ?_
    refine z_as (st' := [.int (iI (bI (false)))]) rfl rfl rfl ?_
    exact z_iret C dX7_mayCallFrom_33 (bI_nar _) (Nat.le_of_ble_eq_true rfl) (Nat.le_of_ble_eq_true rfl) ⟨congrArg (fun b => some (Value.int (iI (bI b)))) (by clear C hκ hκl hS hB hB1 hB2 hB3 hB4 hB5 hB6 hC hD hw; unfold mcF mcK; first | (simp_all; done) | grind), (congrArg (fun w' => mP θ am ar w' N) (by clear C hκ hκl hS hB hB1 hB2 hB3 hB4 hB5 hB6 hC hD hw; rw [if_neg]; unfold mcK; first | (simp_all; done) | grind))⟩
  · skip
    have c1b : (0 ≤ (x) ∧ (x) < w 11 0 ∧ w 16 (x) ≠ 1) := of_decide_eq_true c1
    refine z_aload_n C 9 0 dX7_mayCallFrom_8 rfl rfl ?_
    refine z_iload_n C 10 1 dX7_mayCallFrom_9 rfl rfl ?_
    refine z_iload_n C 11 2 dX7_mayCallFrom_10 rfl rfl ?_
    refine z_callVF (n' := 0) (k' := 0) (As := [.int (iI (m)), .int (iI (x))]) (rest := []) C hκ hκl 14 (k7_reaches hD hw (m) (x) r_m r_x hS (by omega) (by omega)) dX7_mayCallFrom_11 q2501 q2503 qs77 q97 q2504 znX7_reaches (Nat.le_of_ble_eq_true rfl) (Nat.le_of_ble_eq_true rfl) (Nat.le_of_ble_eq_true rfl) (Nat.le_of_ble_eq_true rfl) mrec rfl rfl (Nat.le_of_ble_eq_true rfl) rfl rfl rfl ?_
    refine z_ifB_eq C 32 17 dX7_mayCallFrom_14 (by decide) rfl (fun c2 => ?_) (fun c2 => ?_)
    · skip
      refine z_iconst C 33 dX7_mayCallFrom_32 rfl ?_
      refine z_as (st' := [.int (iI (bI (false)))]) rfl rfl rfl ?_
      exact z_iret C dX7_mayCallFrom_33 (bI_nar _) (Nat.le_of_ble_eq_true rfl) (Nat.le_of_ble_eq_true rfl) ⟨congrArg (fun b => some (Value.int (iI (bI b)))) (by clear C hκ hκl hS hB hB1 hB2 hB3 hB4 hB5 hB6 hC hD hw; unfold mcF mcK; first | (simp_all; done) | grind), (congrArg (fun w' => mP θ am ar w' N) (by clear C hκ hκl hS hB hB1 hB2 hB3 hB4 hB5 hB6 hC hD hw; rw [if_neg]; unfold mcK; first | (simp_all; done) | grind))⟩
    · skip
      refine z_aload_n C 18 0 dX7_mayCallFrom_17 rfl rfl ?_
      refine m_geta C hκ 21 18 (by decide) rfl q2013 rfl dX7_mayCallFrom_18 rfl ?_
      refine z_iload_n C 22 2 dX7_mayCallFrom_21 rfl rfl ?_
      obtain ⟨f3a, f3b, f3c, f3d⟩ := hS.M (show 0 ≤ x by omega) (by omega)
      refine m_iald (len := 100) C hκ hD 23 18 (by decide) rfl rfl (by omega) (by omega) dX7_mayCallFrom_22 rfl ?_
      refine z_aload_n C 24 0 dX7_mayCallFrom_23 rfl rfl ?_
      refine m_geta C hκ 27 18 (by decide) rfl q2013 rfl dX7_mayCallFrom_24 rfl ?_
      refine z_iload_n C 28 1 dX7_mayCallFrom_27 rfl rfl ?_
      obtain ⟨f4a, f4b, f4c, f4d⟩ := hS.M (show 0 ≤ m by omega) (by omega)
      refine m_iald (len := 100) C hκ hD 29 18 (by decide) rfl rfl (by omega) (by omega) dX7_mayCallFrom_28 rfl ?_
      refine z_icmp_le C 34 32 dX7_mayCallFrom_29 (by decide) (hw.r _ _ rfl) (hw.r _ _ rfl) rfl (fun c5 => ?_) (fun c5 => ?_)
      · skip
        refine z_iconst C 35 dX7_mayCallFrom_34 rfl ?_
        refine z_istore_n (lv' := [(0, .ref (am)), (1, .int (iI (m))), (2, .int (iI (x))), (3, .int (iI (1)))]) C 36 [1, 2, 3, 0] dX7_mayCallFrom_35 (by decide) rfl rfl ?_
        refine z_iconst C 37 dX7_mayCallFrom_36 rfl ?_
        refine z_istore (lv' := [(0, .ref (am)), (1, .int (iI (m))), (2, .int (iI (x))), (3, .int (iI (1))), (4, .int (iI (0)))]) C 39 [1, 2, 3, 4, 0] dX7_mayCallFrom_37 (by decide) rfl rfl ?_
        have L39_6 : ∀ (fu : Nat) (k : Nat) (b : Bool) (hk : (k : Int) ≤ w 18 x) (hb : b = allN (mcP w m x) k) (hx : (0 ≤ x ∧ x < w 11 0) ∧ w 18 x ≤ w 18 m) (hK : mcK w m x = true) (hme : (w 18 x).toNat - k < fu), Z κ (mP θ am ar w N) 0 0 39 [(0, .ref (am)), (1, .int (iI (m))), (2, .int (iI (x))), (3, .int (iI (bI (b)))), (4, .int (iI ((k : Int))))] [] := by
          intro fu
          induction fu with
          | zero => intro k b hk hb hx hK hme; exact absurd hme (Nat.not_lt_zero _)
          | succ fu ih7 =>
            intro k b hk hb hx hK hme
            refine z_iload C 41 4 dX7_mayCallFrom_39 rfl rfl ?_
            refine z_aload_n C 42 0 dX7_mayCallFrom_41 rfl rfl ?_
            refine m_geta C hκ 45 18 (by decide) rfl q2013 rfl dX7_mayCallFrom_42 rfl ?_
            refine z_iload_n C 46 2 dX7_mayCallFrom_45 rfl rfl ?_
            refine m_iald (len := 100) C hκ hD 47 18 (by decide) rfl rfl (by omega) (by omega) dX7_mayCallFrom_46 rfl ?_
            refine z_icmp_ge C 95 50 dX7_mayCallFrom_47 (by decide) ⟨by omega, by omega⟩ (hw.r _ _ rfl) rfl (fun c8 => ?_) (fun c8 => ?_)
            · skip
              refine z_aload_n C 96 0 dX7_mayCallFrom_95 rfl rfl ?_
              refine z_aload_n C 97 0 dX7_mayCallFrom_96 rfl rfl ?_
              refine m_geta C hκ 100 17 (by decide) rfl q2012 rfl dX7_mayCallFrom_97 rfl ?_
              refine z_iload_n C 101 2 dX7_mayCallFrom_100 rfl rfl ?_
              refine m_iald (len := 100) C hκ hD 102 17 (by decide) rfl rfl (by omega) (by omega) dX7_mayCallFrom_101 rfl ?_
              obtain ⟨w1, ew1⟩ : ∃ wz, mset w 44 (0) (w 17 (x)) = wz := ⟨_, rfl⟩
              have hw1 : mWF w1 := ew1 ▸ hw.set (hw.r _ _ rfl) rfl
              refine m_puti (w' := w1) C hκ 105 44 (by decide) (by decide) rfl q2039 rfl rfl rfl rfl dX7_mayCallFrom_102 rfl ew1 ?_
              refine z_iload_n C 106 3 dX7_mayCallFrom_105 rfl rfl ?_
              exact z_iret C dX7_mayCallFrom_106 (bI_nar _) (Nat.le_of_ble_eq_true rfl) (Nat.le_of_ble_eq_true rfl) ⟨congrArg (fun b => some (Value.int (iI (bI b)))) (by unfold mcF; rw [hK, hb, show k = (w 18 x).toNat by omega]; rfl), (congrArg (fun w' => mP θ am ar w' N) (by rw [if_pos hK]; subst_vars; rfl))⟩
            · skip
              refine z_iload_n C 51 3 dX7_mayCallFrom_50 rfl rfl ?_
              refine z_ifB_eq C 87 54 dX7_mayCallFrom_51 (by decide) rfl (fun c9 => ?_) (fun c9 => ?_)
              · skip
                refine z_iconst C 88 dX7_mayCallFrom_87 rfl ?_
                refine z_istore_n (lv' := [(0, .ref (am)), (1, .int (iI (m))), (2, .int (iI (x))), (3, .int (iI (0))), (4, .int (iI ((k : Int))))]) C 89 [1, 2, 3, 0, 4] dX7_mayCallFrom_88 (by decide) rfl rfl ?_
                refine z_iinc (lv' := [(0, .ref (am)), (1, .int (iI (m))), (2, .int (iI (x))), (3, .int (iI (0))), (4, .int (iI (((k : Int)) + 1)))]) C 92 4 [1, 2, 3, 4, 0] dX7_mayCallFrom_89 rfl (by decide) rfl rfl ?_
                refine z_goto C 39 dX7_mayCallFrom_92 (by decide) ?_
                refine z_as (lv' := [(0, .ref (am)), (1, .int (iI (m))), (2, .int (iI (x))), (3, .int (iI (bI ((false))))), (4, .int (iI (((k + 1) : Int))))]) rfl rfl rfl ?_
                exact ih7 (k + 1) (false) (by omega) (by clear C hκ hκl; simp only [allN, ← hb]; unfold mcP; first | (simp_all; done) | grind) hx hK (by omega)
              · skip
                have xm := hS.M hm.1 hm.2
                obtain ⟨m1, m2, m3, m4⟩ := xm
                obtain ⟨x1, x2, x3, x4⟩ := hS.M (m := x) (by omega) (by omega)
                have k1 := m4 k (by omega) (by omega)
                have k2 := x4 k (by omega) (by omega)
                refine z_aload_n C 55 0 dX7_mayCallFrom_54 rfl rfl ?_
                refine z_aload_n C 56 0 dX7_mayCallFrom_55 rfl rfl ?_
                refine m_geta C hκ 59 19 (by decide) rfl q2014 rfl dX7_mayCallFrom_56 rfl ?_
                refine z_iconst C 60 dX7_mayCallFrom_59 rfl ?_
                refine z_iload_n C 61 1 dX7_mayCallFrom_60 rfl rfl ?_
                refine z_imul C 62 dX7_mayCallFrom_61 rfl ?_
                refine z_iload C 64 4 dX7_mayCallFrom_62 rfl rfl ?_
                refine z_iadd C 65 dX7_mayCallFrom_64 rfl ?_
                refine m_iald (len := 300) C hκ hD 66 19 (by decide) rfl rfl (by omega) (by omega) dX7_mayCallFrom_65 rfl ?_
                refine z_aload_n C 67 0 dX7_mayCallFrom_66 rfl rfl ?_
                refine m_geta C hκ 70 19 (by decide) rfl q2014 rfl dX7_mayCallFrom_67 rfl ?_
                refine z_iconst C 71 dX7_mayCallFrom_70 rfl ?_
                refine z_iload_n C 72 2 dX7_mayCallFrom_71 rfl rfl ?_
                refine z_imul C 73 dX7_mayCallFrom_72 rfl ?_
                refine z_iload C 75 4 dX7_mayCallFrom_73 rfl rfl ?_
                refine z_iadd C 76 dX7_mayCallFrom_75 rfl ?_
                refine m_iald (len := 300) C hκ hD 77 19 (by decide) rfl rfl (by omega) (by omega) dX7_mayCallFrom_76 rfl ?_
                refine z_callVF (n' := 0) (k' := 0) (As := [.int (iI (w 19 (((3) * (m)) + ((k : Int))))), .int (iI (w 19 (((3) * (x)) + ((k : Int)))))]) (rest := []) C hκ hκl 80 (k7_goesInto hD hw (w 19 (((3) * (m)) + ((k : Int)))) (w 19 (((3) * (x)) + ((k : Int)))) (hw.r _ _ rfl) (hw.r _ _ rfl) (by omega) (by omega)) dX7_mayCallFrom_77 q2209 q2211 qs45 q97 q2212 znX7_goesInto (Nat.le_of_ble_eq_true rfl) (Nat.le_of_ble_eq_true rfl) (Nat.le_of_ble_eq_true rfl) (Nat.le_of_ble_eq_true rfl) mrec rfl rfl (Nat.le_of_ble_eq_true rfl) rfl rfl rfl ?_
                refine z_ifB_eq C 87 83 dX7_mayCallFrom_80 (by decide) rfl (fun c10 => ?_) (fun c10 => ?_)
                · skip
                  refine z_iconst C 88 dX7_mayCallFrom_87 rfl ?_
                  refine z_istore_n (lv' := [(0, .ref (am)), (1, .int (iI (m))), (2, .int (iI (x))), (3, .int (iI (0))), (4, .int (iI ((k : Int))))]) C 89 [1, 2, 3, 0, 4] dX7_mayCallFrom_88 (by decide) rfl rfl ?_
                  refine z_iinc (lv' := [(0, .ref (am)), (1, .int (iI (m))), (2, .int (iI (x))), (3, .int (iI (0))), (4, .int (iI (((k : Int)) + 1)))]) C 92 4 [1, 2, 3, 4, 0] dX7_mayCallFrom_89 rfl (by decide) rfl rfl ?_
                  refine z_goto C 39 dX7_mayCallFrom_92 (by decide) ?_
                  refine z_as (lv' := [(0, .ref (am)), (1, .int (iI (m))), (2, .int (iI (x))), (3, .int (iI (bI ((false))))), (4, .int (iI (((k + 1) : Int))))]) rfl rfl rfl ?_
                  exact ih7 (k + 1) (false) (by omega) (by clear C hκ hκl; simp only [allN, ← hb]; unfold mcP; first | (simp_all; done) | grind) hx hK (by omega)
                · skip
                  refine z_iconst C 84 dX7_mayCallFrom_83 rfl ?_
                  refine z_goto C 88 dX7_mayCallFrom_84 (by decide) ?_
                  refine z_istore_n (lv' := [(0, .ref (am)), (1, .int (iI (m))), (2, .int (iI (x))), (3, .int (iI (1))), (4, .int (iI ((k : Int))))]) C 89 [1, 2, 3, 0, 4] dX7_mayCallFrom_88 (by decide) rfl rfl ?_
                  refine z_iinc (lv' := [(0, .ref (am)), (1, .int (iI (m))), (2, .int (iI (x))), (3, .int (iI (1))), (4, .int (iI (((k : Int)) + 1)))]) C 92 4 [1, 2, 3, 4, 0] dX7_mayCallFrom_89 rfl (by decide) rfl rfl ?_
                  refine z_goto C 39 dX7_mayCallFrom_92 (by decide) ?_
                  refine z_as (lv' := [(0, .ref (am)), (1, .int (iI (m))), (2, .int (iI (x))), (3, .int (iI (bI ((true))))), (4, .int (iI (((k + 1) : Int))))]) rfl rfl rfl ?_
                  exact ih7 (k + 1) (true) (by omega) (by clear C hκ hκl; simp only [allN, ← hb]; unfold mcP; first | (simp_all; done) | grind) hx hK (by omega)
        refine z_as (lv' := [(0, .ref (am)), (1, .int (iI (m))), (2, .int (iI (x))), (3, .int (iI (bI ((true))))), (4, .int (iI (((0) : Int))))]) rfl rfl rfl ?_
        exact L39_6 _ (0) (true) (by have := (hS.M (m := x) (by omega) (by omega)).2.1; omega) rfl (by omega) (by clear C hκ hκl; unfold mcK; first | (simp_all; done) | grind) (Nat.lt_succ_self _)
      · skip
        refine z_iconst C 33 dX7_mayCallFrom_32 rfl ?_
        refine z_as (st' := [.int (iI (bI (false)))]) rfl rfl rfl ?_
        exact z_iret C dX7_mayCallFrom_33 (bI_nar _) (Nat.le_of_ble_eq_true rfl) (Nat.le_of_ble_eq_true rfl) ⟨congrArg (fun b => some (Value.int (iI (bI b)))) (by clear C hκ hκl hS hB hB1 hB2 hB3 hB4 hB5 hB6 hC hD hw f3a f3b f3c f3d f4a f4b f4c f4d; unfold mcF mcK; first | (simp_all; done) | grind), (congrArg (fun w' => mP θ am ar w' N) (by clear C hκ hκl hS hB hB1 hB2 hB3 hB4 hB5 hB6 hC hD hw f3a f3b f3c f3d f4a f4b f4c f4d; rw [if_neg]; unfold mcK; first | (simp_all; done) | grind))⟩
set_option maxRecDepth 100000 in
theorem k7_mayGoUp {l : Launch} {θ : zTh} {N : zMap} {am : Nat} {ar : Nat → Nat} {w : mW} (hD : mDis am ar) (hw : mWF w) (m : Int) (r_m : inR m) (hS : mS w) (hm : 0 ≤ m ∧ m < w 11 0) : ZM θ l yX7_mayGoUp cX7_mayGoUp 4 (some .boolean) ⟨3, 0, 0, 73⟩ [.ref (am), .int (iI (m))] (mP θ am ar w N) (fun v Q => ∃ (r : Bool) (w' : mW), v = some (.int (iI (bI r))) ∧ Q = mP θ am ar w' N ∧ mWF w' ∧ (r = guB w m ∧ sR (if guB w m then mset w 25 m (guN w m) else w) w' ∧ w' 44 0 = w 44 0)) := by
  refine z_start (own := RX7) (nm := "mayGoUp") pnX7 rfl rfl (Nat.le_of_ble_eq_true rfl) ?_
  intro κ hκ hκl C
  change Z κ (mP θ am ar w N) 0 0 0 [(0, .ref (am)), (1, .int (iI (m)))] []
  have hB := hS.B
  obtain ⟨hB1, hB2, hB3, hB4, hB5, hB6⟩ := hS.B
  have hC := hS.C
  obtain ⟨f1a, f1b, f1c, f1d⟩ := hS.M (show 0 ≤ m by omega) (by omega)
  refine z_aload_n C 1 0 dX7_mayGoUp_0 rfl rfl ?_
  refine m_geta C hκ 4 2 (by decide) rfl q1997 rfl dX7_mayGoUp_1 rfl ?_
  refine z_aload_n C 5 0 dX7_mayGoUp_4 rfl rfl ?_
  refine m_geta C hκ 8 13 (by decide) rfl q2008 rfl dX7_mayGoUp_5 rfl ?_
  refine z_iload_n C 9 1 dX7_mayGoUp_8 rfl rfl ?_
  refine m_iald (len := 100) C hκ hD 10 13 (by decide) rfl rfl (by omega) (by omega) dX7_mayGoUp_9 rfl ?_
  obtain ⟨f2a, f2b, f2c, f2d, f2e, f2f, f2g, f2h⟩ := hS.T (show 0 ≤ w 13 (m) by omega) (by omega)
  refine m_iald (len := 60) C hκ hD 11 2 (by decide) rfl rfl (by omega) (by omega) dX7_mayGoUp_10 rfl ?_
  refine z_istore_n (lv' := [(0, .ref (am)), (1, .int (iI (m))), (2, .int (iI (w 2 (w 13 (m)))))]) C 12 [1, 2, 0] dX7_mayGoUp_11 (by decide) rfl rfl ?_
  refine z_iload_n C 13 2 dX7_mayGoUp_12 rfl rfl ?_
  refine z_iconst C 14 dX7_mayGoUp_13 rfl ?_
  refine z_icmp_ne C 21 17 dX7_mayGoUp_14 (by decide) (hw.r _ _ rfl) ⟨by decide, by decide⟩ rfl (fun c3 => ?_) (fun c3 => ?_)
  · skip
    refine z_aload_n C 22 0 dX7_mayGoUp_21 rfl rfl ?_
    refine z_iload_n C 23 2 dX7_mayGoUp_22 rfl rfl ?_
    refine z_iload_n C 24 1 dX7_mayGoUp_23 rfl rfl ?_
    refine z_iconst C 25 dX7_mayGoUp_24 rfl ?_
    refine z_callV  (As := [.int (iI (w 2 (w 13 (m)))), .int (iI (m)), .int (iI (2))]) (rest := []) C hκ hκl 28 (k7_found hD hw (w 2 (w 13 (m))) (m) (2) (hw.r _ _ rfl) r_m ⟨by decide, by decide⟩ hS (by omega) (by omega)) dX7_mayGoUp_25 q2308 q2310 qs60 q97 q2311 znX7_found (Nat.le_of_ble_eq_true rfl) (Nat.le_of_ble_eq_true rfl) (Nat.le_of_ble_eq_true rfl) (Nat.le_of_ble_eq_true rfl) mrec rfl rfl (Nat.le_of_ble_eq_true rfl) rfl (fun v9 Q9 h9 => ?_)
    obtain ⟨r5, w1, rfl, rfl, hw1, r_r5, hr4⟩ := h9
    refine z_as (st' := [.int (iI (r5))]) rfl rfl rfl ?_
    refine z_widen (n' := 0) (k' := 0) (Nat.le_refl _) (Nat.le_refl _) ?_
    refine z_istore_n (lv' := [(0, .ref (am)), (1, .int (iI (m))), (2, .int (iI (w 2 (w 13 (m))))), (3, .int (iI (r5)))]) C 29 [1, 2, 3, 0] dX7_mayGoUp_28 (by decide) rfl rfl ?_
    have q1 : sQ w w1 := hr4.2
    have hN : guN w m = r5 := by unfold guN; rw [if_neg (by omega), hr4.1]
    have hS1 := mS_q q1 hS
    have e111 : w1 11 0 = w 11 0 := q1 11 0 (by decide) (by decide) (by decide)
    have hnr := fnI_r (w := w) (t := w 2 (w 13 m)) (m := m) (y := 2) (by omega)
    rw [← hr4.1] at hnr
    have ha1 : ∀ x k, hasB w1 x k = hasB w x k := fun x k => hasB_q q1
    have pr1 : ∀ x, prB w1 x = prB w x := fun x => prB_q q1
    refine z_iload_n C 30 3 dX7_mayGoUp_29 rfl rfl ?_
    refine z_iconst C 31 dX7_mayGoUp_30 rfl ?_
    refine z_icmp_eq C 61 34 dX7_mayGoUp_31 (by decide) r_r5 ⟨by decide, by decide⟩ rfl (fun c6 => ?_) (fun c6 => ?_)
    · skip
      refine z_iconst C 62 dX7_mayGoUp_61 rfl ?_
      refine z_as (st' := [.int (iI (bI (false)))]) rfl rfl rfl ?_
      exact z_iret C dX7_mayGoUp_62 (bI_nar _) (Nat.le_of_ble_eq_true rfl) (Nat.le_of_ble_eq_true rfl) ⟨_, _, rfl, rfl, hw1, (by have hB9 : guB w m = false := (by clear C hκ hκl; unfold guB; rw [hN, ← ha1, ← ha1, ← pr1]; first | (simp_all; done) | grind); refine ⟨hB9.symm, ?_, q1 44 0 (by decide) (by decide) (by decide)⟩; rw [if_neg (by rw [hB9]; decide)]; exact q1.R)⟩
    · skip
      refine z_aload_n C 35 0 dX7_mayGoUp_34 rfl rfl ?_
      refine z_iload_n C 36 3 dX7_mayGoUp_35 rfl rfl ?_
      refine z_bipush C 38 dX7_mayGoUp_36 (by decide) rfl ?_
      refine z_callVF (n' := 0) (k' := 0) (As := [.int (iI (r5)), .int (iI (16))]) (rest := []) C hκ hκl 41 (k7_has hD hw1 (r5) (16) r_r5 ⟨by decide, by decide⟩ (by omega)) dX7_mayGoUp_38 q2271 q2273 qs53 q97 q2274 znX7_has (Nat.le_of_ble_eq_true rfl) (Nat.le_of_ble_eq_true rfl) (Nat.le_of_ble_eq_true rfl) (Nat.le_of_ble_eq_true rfl) mrec rfl rfl (Nat.le_of_ble_eq_true rfl) rfl rfl rfl ?_
      refine z_ifB_ne C 61 44 dX7_mayGoUp_41 (by decide) rfl (fun c7 => ?_) (fun c7 => ?_)
      · skip
        refine z_iconst C 62 dX7_mayGoUp_61 rfl ?_
        refine z_as (st' := [.int (iI (bI (false)))]) rfl rfl rfl ?_
        exact z_iret C dX7_mayGoUp_62 (bI_nar _) (Nat.le_of_ble_eq_true rfl) (Nat.le_of_ble_eq_true rfl) ⟨_, _, rfl, rfl, hw1, (by have hB9 : guB w m = false := (by clear C hκ hκl; unfold guB; rw [hN, ← ha1, ← ha1, ← pr1]; first | (simp_all; done) | grind); refine ⟨hB9.symm, ?_, q1 44 0 (by decide) (by decide) (by decide)⟩; rw [if_neg (by rw [hB9]; decide)]; exact q1.R)⟩
      · skip
        refine z_aload_n C 45 0 dX7_mayGoUp_44 rfl rfl ?_
        refine z_iload_n C 46 3 dX7_mayGoUp_45 rfl rfl ?_
        refine z_iconst C 47 dX7_mayGoUp_46 rfl ?_
        refine z_callVF (n' := 0) (k' := 0) (As := [.int (iI (r5)), .int (iI (4))]) (rest := []) C hκ hκl 50 (k7_has hD hw1 (r5) (4) r_r5 ⟨by decide, by decide⟩ (by omega)) dX7_mayGoUp_47 q2271 q2273 qs53 q97 q2274 znX7_has (Nat.le_of_ble_eq_true rfl) (Nat.le_of_ble_eq_true rfl) (Nat.le_of_ble_eq_true rfl) (Nat.le_of_ble_eq_true rfl) mrec rfl rfl (Nat.le_of_ble_eq_true rfl) rfl rfl rfl ?_
        refine z_ifB_ne C 61 53 dX7_mayGoUp_50 (by decide) rfl (fun c8 => ?_) (fun c8 => ?_)
        · skip
          refine z_iconst C 62 dX7_mayGoUp_61 rfl ?_
          refine z_as (st' := [.int (iI (bI (false)))]) rfl rfl rfl ?_
          exact z_iret C dX7_mayGoUp_62 (bI_nar _) (Nat.le_of_ble_eq_true rfl) (Nat.le_of_ble_eq_true rfl) ⟨_, _, rfl, rfl, hw1, (by have hB9 : guB w m = false := (by clear C hκ hκl; unfold guB; rw [hN, ← ha1, ← ha1, ← pr1]; first | (simp_all; done) | grind); refine ⟨hB9.symm, ?_, q1 44 0 (by decide) (by decide) (by decide)⟩; rw [if_neg (by rw [hB9]; decide)]; exact q1.R)⟩
        · skip
          refine z_aload_n C 54 0 dX7_mayGoUp_53 rfl rfl ?_
          refine z_iload_n C 55 3 dX7_mayGoUp_54 rfl rfl ?_
          refine z_callVF (n' := 0) (k' := 0) (As := [.int (iI (r5))]) (rest := []) C hκ hκl 58 (k7_isPrivate hD hw1 (r5) r_r5 (by omega)) dX7_mayGoUp_55 q2275 q2277 qs54 q97 q2278 znX7_isPrivate (Nat.le_of_ble_eq_true rfl) (Nat.le_of_ble_eq_true rfl) (Nat.le_of_ble_eq_true rfl) (Nat.le_of_ble_eq_true rfl) mrec rfl rfl (Nat.le_of_ble_eq_true rfl) rfl rfl rfl ?_
          refine z_ifB_eq C 63 61 dX7_mayGoUp_58 (by decide) rfl (fun c9 => ?_) (fun c9 => ?_)
          · skip
            have c9b : ¬ (whoI w1 (r5) = 2) := of_decide_eq_false c9
            refine z_aload_n C 64 0 dX7_mayGoUp_63 rfl rfl ?_
            refine m_geta C hκ 67 25 (by decide) rfl q2020 rfl dX7_mayGoUp_64 rfl ?_
            refine z_iload_n C 68 1 dX7_mayGoUp_67 rfl rfl ?_
            refine z_iload_n C 69 3 dX7_mayGoUp_68 rfl rfl ?_
            obtain ⟨w2, ew2⟩ : ∃ wz, mset w1 25 (m) (r5) = wz := ⟨_, rfl⟩
            have hw2 : mWF w2 := ew2 ▸ hw1.set r_r5 rfl
            refine m_iast (len := 100) (w' := w2) C hκ hD 70 25 (by decide) rfl rfl (by omega) (by omega) dX7_mayGoUp_69 rfl ew2 ?_
            refine z_iconst C 71 dX7_mayGoUp_70 rfl ?_
            refine z_as (st' := [.int (iI (bI (true)))]) rfl rfl rfl ?_
            exact z_iret C dX7_mayGoUp_71 (bI_nar _) (Nat.le_of_ble_eq_true rfl) (Nat.le_of_ble_eq_true rfl) ⟨_, _, rfl, rfl, hw2, (by have hB9 : guB w m = true := (by clear C hκ hκl; unfold guB; rw [hN, ← ha1, ← ha1, ← pr1]; first | (simp_all; done) | grind); refine ⟨hB9.symm, ?_, by rw [← ew2, mset_k (by decide)]; exact q1 44 0 (by decide) (by decide) (by decide)⟩; rw [if_pos hB9, hN, ← ew2]; exact q1.R.both)⟩
          · skip
            have c9b : (whoI w1 (r5) = 2) := of_decide_eq_true c9
            refine z_iconst C 62 dX7_mayGoUp_61 rfl ?_
            refine z_as (st' := [.int (iI (bI (false)))]) rfl rfl rfl ?_
            exact z_iret C dX7_mayGoUp_62 (bI_nar _) (Nat.le_of_ble_eq_true rfl) (Nat.le_of_ble_eq_true rfl) ⟨_, _, rfl, rfl, hw1, (by have hB9 : guB w m = false := (by clear C hκ hκl; unfold guB; rw [hN, ← ha1, ← ha1, ← pr1]; first | (simp_all; done) | grind); refine ⟨hB9.symm, ?_, q1 44 0 (by decide) (by decide) (by decide)⟩; rw [if_neg (by rw [hB9]; decide)]; exact q1.R)⟩
  · skip
    refine z_iconst C 18 dX7_mayGoUp_17 rfl ?_
    refine z_goto C 28 dX7_mayGoUp_18 (by decide) ?_
    refine z_istore_n (lv' := [(0, .ref (am)), (1, .int (iI (m))), (2, .int (iI (w 2 (w 13 (m))))), (3, .int (iI (-1)))]) C 29 [1, 2, 3, 0] dX7_mayGoUp_28 (by decide) rfl rfl ?_
    have hN : guN w m = -1 := by unfold guN; rw [if_pos (by omega)]
    refine z_iload_n C 30 3 dX7_mayGoUp_29 rfl rfl ?_
    refine z_iconst C 31 dX7_mayGoUp_30 rfl ?_
    refine z_icmp_eq C 61 34 dX7_mayGoUp_31 (by decide) ⟨by decide, by decide⟩ ⟨by decide, by decide⟩ rfl (fun c10 => ?_) (fun c10 => absurd c10 (by decide))
    refine z_iconst C 62 dX7_mayGoUp_61 rfl ?_
    refine z_as (st' := [.int (iI (bI (false)))]) rfl rfl rfl ?_
    exact z_iret C dX7_mayGoUp_62 (bI_nar _) (Nat.le_of_ble_eq_true rfl) (Nat.le_of_ble_eq_true rfl) ⟨_, _, rfl, rfl, hw, (by have hB9 : guB w m = false := (by unfold guB; rw [hN]; simp); refine ⟨hB9.symm, ?_, rfl⟩; rw [if_neg (by rw [hB9]; decide)]; exact sR.refl)⟩
