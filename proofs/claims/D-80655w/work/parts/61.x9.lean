set_option maxRecDepth 100000 in
theorem k0_findField {l : Launch} {θ : zTh} {σ : xA} {w : mW} {M N : zMap} (hX : xM θ σ w (xL w) M) (hs : xS w) (hw : mWF w) (hT : zTb θ) (t : Int) (n : Int) (y : Int) (r_t : inR t) (r_n : inR n) (r_y : inR y)  (hUq : xUq w) : ZM θ l yX0_findField cX0_findField 4 (some .int) ⟨133, 2, 65, 4022⟩ [.ref (σ 0 (0)), .int (iI (t)), .int (iI (n)), .int (iI (y))] (zP θ M N) (fun v9 Q9 => v9 = some (.int (iI (ffI w t n y))) ∧ ∃ M' : zMap, Q9 = zP θ M' N ∧ zGe M M') := by
  refine z_start (own := RX0) (nm := "findField") pnX0 rfl rfl (Nat.le_of_ble_eq_true rfl) ?_
  intro κ hκ hκl C
  change Z κ (zP θ M N) 0 0 0 [(0, .ref (σ 0 (0))), (1, .int (iI (t))), (2, .int (iI (n))), (3, .int (iI (y)))] []
  have hS := hs.S
  have hB := hS.B
  obtain ⟨hB1, hB2, hB3, hB4, hB5, hB6⟩ := hS.B
  have hC := hS.C
  obtain ⟨h81, h82⟩ := hs.r8
  have ge0 : zGe M M := zGe.rf
  refine z_aload_n C 1 0 dX0_findField_0 rfl rfl ?_
  refine z_iload_n C 2 1 dX0_findField_1 rfl rfl ?_
  refine z_callV (As := [.int (iI (t))]) (rest := []) C hκ hκl 5 (k0_isType hX hs hw hT (t) r_t) dX0_findField_2 q374 q376 qs1 q90 q377 znX0_isType (Nat.le_of_ble_eq_true rfl) (Nat.le_of_ble_eq_true rfl) (Nat.le_of_ble_eq_true rfl) (Nat.le_of_ble_eq_true rfl) (zrec_P hX.o) rfl rfl (Nat.le_of_ble_eq_true rfl) rfl (fun v9 Q9 h9 => ?_)
  obtain ⟨rfl, rfl⟩ := h9
  refine z_as (st' := [.int (iI (bI (tyB w (t))))]) rfl rfl rfl ?_
  refine z_ifB_eq C 32 8 dX0_findField_5 (by decide) rfl (fun c1 => ?_) (fun c1 => ?_)
  · skip
    have c1b : ¬ (0 ≤ (t) ∧ (t) < w 0 0) := of_decide_eq_false c1
    refine z_bipush C 34 dX0_findField_32 (by decide) rfl ?_
    exact z_iret C dX0_findField_34 rfl (Nat.le_of_ble_eq_true rfl) (Nat.le_of_ble_eq_true rfl) ⟨congrArg (fun z => some (Value.int (iI z))) (by clear C hκ hκl hS hB hB1 hB2 hB3 hB4 hB5 hB6 hC hw hX hs hT h81 h82; unfold ffI; rw [if_pos (by first | (simp_all; done) | (simp_all <;> omega))]), M, rfl, ge0⟩
  · skip
    have c1b : (0 ≤ (t) ∧ (t) < w 0 0) := of_decide_eq_true c1
    refine z_iload_n C 9 2 dX0_findField_8 rfl rfl ?_
    refine z_i2l C 10 dX0_findField_9 r_n rfl ?_
    refine z_lconst (x := 0) C 11 dX0_findField_10 rfl rfl ?_
    refine z_ldc2 (z := 19) C 14 dX0_findField_11 q641 (by decide) rfl ?_
    refine z_callS (As := [.long (lI (n)), .long (lI (0)), .long (lI (19))]) (rest := []) C hκ hκl 17 (k0_isIn hT (n) (0) (19) (inR_L r_n) ⟨by decide, by decide⟩ ⟨by decide, by decide⟩) dX0_findField_14 q378 q379 q90 q380 znX0_isIn (Nat.le_of_ble_eq_true rfl) (Nat.le_of_ble_eq_true rfl) (Nat.le_of_ble_eq_true rfl) (Nat.le_of_ble_eq_true rfl) rfl (Nat.le_of_ble_eq_true rfl) rfl (fun v9 Q9 h9 => ?_)
    obtain ⟨rfl, rfl⟩ := h9
    refine z_as (st' := [.int (iI (bI (decide ((0) ≤ (n) ∧ (n) ≤ (19)))))]) rfl rfl rfl ?_
    refine z_ifB_eq C 32 20 dX0_findField_17 (by decide) rfl (fun c2 => ?_) (fun c2 => ?_)
    · skip
      have c2b : ¬ (((0) ≤ (n) ∧ (n) ≤ (19))) := of_decide_eq_false c2
      refine z_bipush C 34 dX0_findField_32 (by decide) rfl ?_
      exact z_iret C dX0_findField_34 rfl (Nat.le_of_ble_eq_true rfl) (Nat.le_of_ble_eq_true rfl) ⟨congrArg (fun z => some (Value.int (iI z))) (by clear C hκ hκl hS hB hB1 hB2 hB3 hB4 hB5 hB6 hC hw hX hs hT h81 h82; unfold ffI; rw [if_pos (by first | (simp_all; done) | (simp_all <;> omega))]), M, rfl, ge0⟩
    · skip
      have c2b : (((0) ≤ (n) ∧ (n) ≤ (19))) := of_decide_eq_true c2
      refine z_iload_n C 21 3 dX0_findField_20 rfl rfl ?_
      refine z_i2l C 22 dX0_findField_21 r_y rfl ?_
      refine z_lconst (x := 0) C 23 dX0_findField_22 rfl rfl ?_
      refine z_ldc2 (z := 2) C 26 dX0_findField_23 q1181 (by decide) rfl ?_
      refine z_callS (As := [.long (lI (y)), .long (lI (0)), .long (lI (2))]) (rest := []) C hκ hκl 29 (k0_isIn hT (y) (0) (2) (inR_L r_y) ⟨by decide, by decide⟩ ⟨by decide, by decide⟩) dX0_findField_26 q378 q379 q90 q380 znX0_isIn (Nat.le_of_ble_eq_true rfl) (Nat.le_of_ble_eq_true rfl) (Nat.le_of_ble_eq_true rfl) (Nat.le_of_ble_eq_true rfl) rfl (Nat.le_of_ble_eq_true rfl) rfl (fun v9 Q9 h9 => ?_)
      obtain ⟨rfl, rfl⟩ := h9
      refine z_as (st' := [.int (iI (bI (decide ((0) ≤ (y) ∧ (y) ≤ (2)))))]) rfl rfl rfl ?_
      refine z_ifB_ne C 35 32 dX0_findField_29 (by decide) rfl (fun c3 => ?_) (fun c3 => ?_)
      · skip
        have c3b : (((0) ≤ (y) ∧ (y) ≤ (2))) := of_decide_eq_true c3
        refine z_new (fs := [.null, .int (iI (0)), .null, .int (iI (0)), .null]) C hκ 38 zk_X22 q1182 q1183 q117 (fun j9 h9 => match j9, h9 with | 0, _ => rfl | 1, _ => rfl | 2, _ => rfl | 3, _ => rfl | 4, _ => rfl | (j9 + 5), h9 => absurd h9 (by omega)) (Nat.le_of_ble_eq_true rfl) (Nat.le_of_ble_eq_true rfl) dX0_findField_35 rfl (fun a4 a4M a4N => ?_)
        refine z_widen (n' := 1) (k' := 5) (Nat.le_refl _) (Nat.le_refl _) ?_
        have fr5 : xFr σ w (xL w) a4 := hX.fr a4M
        have fr6 : M a4 = none := ge0.no a4M
        obtain ⟨M1, eM1⟩ : ∃ z9 : zMap, zup M a4 (.inr (22, [.null, .int (iI (0)), .null, .int (iI (0)), .null]) : va_E) = z9 := ⟨_, rfl⟩
        rw [eM1]
        have hX7 : xM θ σ w (xL w) M1 := eM1 ▸ hX.up fr5
        have ge8 : zGe M M1 := eM1 ▸ ge0.up fr6
        have o9 : M1 a4 = some (.inr (22, [.null, .int (iI (0)), .null, .int (iI (0)), .null])) := eM1 ▸ zup_s
        refine z_dup C 39 dX0_findField_38 rfl rfl ?_
        refine z_aload_n C 40 0 dX0_findField_39 rfl rfl ?_
        refine z_iload_n C 41 3 dX0_findField_40 rfl rfl ?_
        refine z_iload_n C 42 2 dX0_findField_41 rfl rfl ?_
        refine z_callI (As := [.ref (σ 0 (0)), .int (iI (y)), .int (iI (n))]) (rest := [.ref (a4)]) C hκ hκl 45 (k22_init_22 hT (a4) (σ 0 (0)) (y) (n) r_y r_n o9) dX0_findField_42 q1184 q1185 q117 q1186 znX22_init rfl (Nat.le_of_ble_eq_true rfl) (Nat.le_of_ble_eq_true rfl) (Nat.le_of_ble_eq_true rfl) (Nat.le_of_ble_eq_true rfl) rfl (Nat.le_of_ble_eq_true rfl) rfl (fun v9 Q9 h9 => ?_)
        obtain ⟨rfl, Mr10, mtr10, rfl, fxr10, oar10, hmtr10, gmtr10, imtr10⟩ := h9
        have ne11 : a4 ≠ mtr10 := fun z9 => by have z8 := o9; rw [z9, gmtr10] at z8; cases z8
        have fr12 : xFr σ w (xL w) mtr10 := hX7.fr gmtr10
        have fr13 : M mtr10 = none := ge8.no gmtr10
        have hX14 : xM θ σ w (xL w) Mr10 := hX7.fx fxr10 fr5
        have ge15 : zGe M Mr10 := ge8.fx fxr10 fr6
        refine z_as (Pic' := zP θ Mr10 N) (st' := [.ref (a4)]) rfl rfl rfl ?_
        refine z_widen (n' := 2) (k' := 65) (Nat.le_refl _) (Nat.le_refl _) ?_
        refine z_aload_n C 46 0 dX0_findField_45 rfl rfl ?_
        refine z_getf C hκ (v := .ref (σ 1 (0))) 49 0 zk_X0 hX14.o (by decide) q325 (Or.inl rfl) rfl dX0_findField_46 rfl ?_
        refine z_iload_n C 50 1 dX0_findField_49 rfl rfl ?_
        refine x_aT C hκ 51 hX14 hs (by omega) (by omega) dX0_findField_50 rfl ?_
        obtain ⟨f16a, f16b, f16c, f16d, f16e, f16f, f16g, f16h⟩ := hS.T (show 0 ≤ t by omega) (by omega)
        obtain ⟨f16i, f16j, f16k, f16l⟩ := hs.ty (show 0 ≤ t by omega) (by omega)
        refine z_as (Pic' := zP θ (zup Mr10 mtr10 (metE θ (fun _ => false))) N) (congrArg (fun z9 => zP θ z9 N) (zup_id hmtr10).symm) rfl rfl ?_
        refine z_callU (owner := RX19) (As := [.ref (σ 10 (t))]) (rest := []) C hκ hκl 54 (xSr_all_22 hX14 hs hw hT a4 mtr10 y n r_y r_n oar10  ne11 fr12 hUq 60 (t) (fun _ => false) ⟨by omega, by omega⟩ (by omega)) dX0_findField_51 q1198 q1199 q1200 q944 q113 q945 rfl ⟨by decide, by decide, rfl⟩ (Nat.le_of_ble_eq_true rfl) (Nat.le_of_ble_eq_true rfl) (Nat.le_of_ble_eq_true rfl) (Nat.le_of_ble_eq_true rfl) (zrec_P (show zup Mr10 mtr10 _ a4 = _ from (zup_n ne11).trans oar10)) rfl rfl (Nat.le_of_ble_eq_true rfl) rfl (fun v9 Q9 h9 => ?_)
        obtain ⟨rfl, rfl⟩ := h9
        obtain ⟨M2, eM2⟩ : ∃ z9 : zMap, zup Mr10 mtr10 (metE θ ((sF (xfO w n y) (xCh w y (!decide (y = 1))) 60 (t) (fun _ => false)).2) : va_E) = z9 := ⟨_, rfl⟩
        rw [eM2]
        have o17 : M2 a4 = some (.inr (22, [.ref (mtr10), .int (iI (y)), .ref ((σ 0 (0))), .int (iI (n)), .ref ((σ 0 (0)))])) := eM2 ▸ (zup_n ne11).trans oar10
        have hX18 : xM θ σ w (xL w) M2 := eM2 ▸ hX14.up fr12
        have ge19 : zGe M M2 := eM2 ▸ ge15.up fr13
        have o20 : M2 mtr10 = some (metE θ ((sF (xfO w n y) (xCh w y (!decide (y = 1))) 60 (t) (fun _ => false)).2)) := eM2 ▸ zup_s
        have hsr9 := sF_r (o := (xfO w n y)) (ch := (xCh w y (!decide (y = 1)))) (N := w 11 0) (fun u => xfO_r (by omega)) (by omega) 60 (t) (fun _ => false)
        refine z_as (st' := [va_rf (xo σ 20 ((sF (xfO w n y) (xCh w y (!decide (y = 1))) 60 (t) (fun _ => false)).1))]) rfl rfl rfl ?_
        refine z_callS (As := [va_rf (xo σ 20 ((sF (xfO w n y) (xCh w y (!decide (y = 1))) 60 (t) (fun _ => false)).1))]) (rest := []) C hκ hκl 57 (k0_told hX18 hs hw hT ((sF (xfO w n y) (xCh w y (!decide (y = 1))) 60 (t) (fun _ => false)).1) ⟨by omega, by omega⟩) dX0_findField_54 q1201 q1202 q90 q1203 znX0_told (Nat.le_of_ble_eq_true rfl) (Nat.le_of_ble_eq_true rfl) (Nat.le_of_ble_eq_true rfl) (Nat.le_of_ble_eq_true rfl) rfl (Nat.le_of_ble_eq_true rfl) rfl (fun v9 Q9 h9 => ?_)
        obtain ⟨rfl, rfl⟩ := h9
        refine z_as (st' := [.int (iI (((sF (xfO w n y) (xCh w y (!decide (y = 1))) 60 (t) (fun _ => false)).1)))]) rfl rfl rfl ?_
        exact z_iret C dX0_findField_57 rfl (Nat.le_of_ble_eq_true rfl) (Nat.le_of_ble_eq_true rfl) ⟨congrArg (fun z => some (Value.int (iI z))) (by rw [ffI_x hS (by assumption) (by omega) (by omega)]), M2, rfl, ge19⟩
      · skip
        have c3b : ¬ (((0) ≤ (y) ∧ (y) ≤ (2))) := of_decide_eq_false c3
        refine z_bipush C 34 dX0_findField_32 (by decide) rfl ?_
        exact z_iret C dX0_findField_34 rfl (Nat.le_of_ble_eq_true rfl) (Nat.le_of_ble_eq_true rfl) ⟨congrArg (fun z => some (Value.int (iI z))) (by clear C hκ hκl hS hB hB1 hB2 hB3 hB4 hB5 hB6 hC hw hX hs hT h81 h82; unfold ffI; rw [if_pos (by first | (simp_all; done) | (simp_all <;> omega))]), M, rfl, ge0⟩
set_option maxRecDepth 100000 in
theorem k0_findMethod {l : Launch} {θ : zTh} {σ : xA} {w : mW} {M N : zMap} (hX : xM θ σ w (xL w) M) (hs : xS w) (hw : mWF w) (hT : zTb θ) (t : Int) (m : Int) (y : Int) (r_t : inR t) (r_m : inR m) (r_y : inR y)  (hUq : xUq w) : ZM θ l yX0_findMethod cX0_findMethod 4 (some .int) ⟨133, 2, 66, 4022⟩ [.ref (σ 0 (0)), .int (iI (t)), .int (iI (m)), .int (iI (y))] (zP θ M N) (fun v9 Q9 => v9 = some (.int (iI (fmI w t m y))) ∧ ∃ M' : zMap, Q9 = zP θ M' N ∧ zGe M M') := by
  refine z_start (own := RX0) (nm := "findMethod") pnX0 rfl rfl (Nat.le_of_ble_eq_true rfl) ?_
  intro κ hκ hκl C
  change Z κ (zP θ M N) 0 0 0 [(0, .ref (σ 0 (0))), (1, .int (iI (t))), (2, .int (iI (m))), (3, .int (iI (y)))] []
  have hS := hs.S
  have hB := hS.B
  obtain ⟨hB1, hB2, hB3, hB4, hB5, hB6⟩ := hS.B
  have hC := hS.C
  obtain ⟨h81, h82⟩ := hs.r8
  have ge0 : zGe M M := zGe.rf
  refine z_aload_n C 1 0 dX0_findMethod_0 rfl rfl ?_
  refine z_iload_n C 2 1 dX0_findMethod_1 rfl rfl ?_
  refine z_callV (As := [.int (iI (t))]) (rest := []) C hκ hκl 5 (k0_isType hX hs hw hT (t) r_t) dX0_findMethod_2 q374 q376 qs1 q90 q377 znX0_isType (Nat.le_of_ble_eq_true rfl) (Nat.le_of_ble_eq_true rfl) (Nat.le_of_ble_eq_true rfl) (Nat.le_of_ble_eq_true rfl) (zrec_P hX.o) rfl rfl (Nat.le_of_ble_eq_true rfl) rfl (fun v9 Q9 h9 => ?_)
  obtain ⟨rfl, rfl⟩ := h9
  refine z_as (st' := [.int (iI (bI (tyB w (t))))]) rfl rfl rfl ?_
  refine z_ifB_eq C 28 8 dX0_findMethod_5 (by decide) rfl (fun c1 => ?_) (fun c1 => ?_)
  · skip
    have c1b : ¬ (0 ≤ (t) ∧ (t) < w 0 0) := of_decide_eq_false c1
    refine z_bipush C 30 dX0_findMethod_28 (by decide) rfl ?_
    exact z_iret C dX0_findMethod_30 rfl (Nat.le_of_ble_eq_true rfl) (Nat.le_of_ble_eq_true rfl) ⟨congrArg (fun z => some (Value.int (iI z))) (by clear C hκ hκl hS hB hB1 hB2 hB3 hB4 hB5 hB6 hC hw hX hs hT h81 h82; unfold fmI; rw [if_pos (by first | (simp_all; done) | (simp_all <;> omega))]), M, rfl, ge0⟩
  · skip
    have c1b : (0 ≤ (t) ∧ (t) < w 0 0) := of_decide_eq_true c1
    refine z_aload_n C 9 0 dX0_findMethod_8 rfl rfl ?_
    refine z_iload_n C 10 2 dX0_findMethod_9 rfl rfl ?_
    refine z_callV (As := [.int (iI (m))]) (rest := []) C hκ hκl 13 (k0_isMethod hX hs hw hT (m) r_m) dX0_findMethod_10 q791 q793 qs6 q90 q794 znX0_isMethod (Nat.le_of_ble_eq_true rfl) (Nat.le_of_ble_eq_true rfl) (Nat.le_of_ble_eq_true rfl) (Nat.le_of_ble_eq_true rfl) (zrec_P hX.o) rfl rfl (Nat.le_of_ble_eq_true rfl) rfl (fun v9 Q9 h9 => ?_)
    obtain ⟨rfl, rfl⟩ := h9
    refine z_as (st' := [.int (iI (bI (mtB w (m))))]) rfl rfl rfl ?_
    refine z_ifB_eq C 28 16 dX0_findMethod_13 (by decide) rfl (fun c2 => ?_) (fun c2 => ?_)
    · skip
      have c2b : ¬ (0 ≤ (m) ∧ (m) < w 11 0 ∧ w 16 (m) ≠ 1) := of_decide_eq_false c2
      refine z_bipush C 30 dX0_findMethod_28 (by decide) rfl ?_
      exact z_iret C dX0_findMethod_30 rfl (Nat.le_of_ble_eq_true rfl) (Nat.le_of_ble_eq_true rfl) ⟨congrArg (fun z => some (Value.int (iI z))) (by clear C hκ hκl hS hB hB1 hB2 hB3 hB4 hB5 hB6 hC hw hX hs hT h81 h82; unfold fmI; rw [if_pos (by first | (simp_all; done) | (simp_all <;> omega))]), M, rfl, ge0⟩
    · skip
      have c2b : (0 ≤ (m) ∧ (m) < w 11 0 ∧ w 16 (m) ≠ 1) := of_decide_eq_true c2
      refine z_iload_n C 17 3 dX0_findMethod_16 rfl rfl ?_
      refine z_i2l C 18 dX0_findMethod_17 r_y rfl ?_
      refine z_lconst (x := 0) C 19 dX0_findMethod_18 rfl rfl ?_
      refine z_ldc2 (z := 2) C 22 dX0_findMethod_19 q1181 (by decide) rfl ?_
      refine z_callS (As := [.long (lI (y)), .long (lI (0)), .long (lI (2))]) (rest := []) C hκ hκl 25 (k0_isIn hT (y) (0) (2) (inR_L r_y) ⟨by decide, by decide⟩ ⟨by decide, by decide⟩) dX0_findMethod_22 q378 q379 q90 q380 znX0_isIn (Nat.le_of_ble_eq_true rfl) (Nat.le_of_ble_eq_true rfl) (Nat.le_of_ble_eq_true rfl) (Nat.le_of_ble_eq_true rfl) rfl (Nat.le_of_ble_eq_true rfl) rfl (fun v9 Q9 h9 => ?_)
      obtain ⟨rfl, rfl⟩ := h9
      refine z_as (st' := [.int (iI (bI (decide ((0) ≤ (y) ∧ (y) ≤ (2)))))]) rfl rfl rfl ?_
      refine z_ifB_ne C 31 28 dX0_findMethod_25 (by decide) rfl (fun c3 => ?_) (fun c3 => ?_)
      · skip
        have c3b : (((0) ≤ (y) ∧ (y) ≤ (2))) := of_decide_eq_true c3
        refine z_new (fs := [.null, .int (iI (0)), .null, .null, .null, .null]) C hκ 34 zk_X20 q908 q909 q114 (fun j9 h9 => match j9, h9 with | 0, _ => rfl | 1, _ => rfl | 2, _ => rfl | 3, _ => rfl | 4, _ => rfl | 5, _ => rfl | (j9 + 6), h9 => absurd h9 (by omega)) (Nat.le_of_ble_eq_true rfl) (Nat.le_of_ble_eq_true rfl) dX0_findMethod_31 rfl (fun a4 a4M a4N => ?_)
        refine z_widen (n' := 1) (k' := 6) (Nat.le_refl _) (Nat.le_refl _) ?_
        have fr5 : xFr σ w (xL w) a4 := hX.fr a4M
        have fr6 : M a4 = none := ge0.no a4M
        obtain ⟨M1, eM1⟩ : ∃ z9 : zMap, zup M a4 (.inr (20, [.null, .int (iI (0)), .null, .null, .null, .null]) : va_E) = z9 := ⟨_, rfl⟩
        rw [eM1]
        have hX7 : xM θ σ w (xL w) M1 := eM1 ▸ hX.up fr5
        have ge8 : zGe M M1 := eM1 ▸ ge0.up fr6
        have o9 : M1 a4 = some (.inr (20, [.null, .int (iI (0)), .null, .null, .null, .null])) := eM1 ▸ zup_s
        refine z_dup C 35 dX0_findMethod_34 rfl rfl ?_
        refine z_aload_n C 36 0 dX0_findMethod_35 rfl rfl ?_
        refine z_iload_n C 37 3 dX0_findMethod_36 rfl rfl ?_
        refine z_aload_n C 38 0 dX0_findMethod_37 rfl rfl ?_
        refine z_getf C hκ (v := .ref (σ 2 (0))) 41 2 zk_X0 hX7.o (by decide) q329 (Or.inl rfl) rfl dX0_findMethod_38 rfl ?_
        refine z_iload_n C 42 2 dX0_findMethod_41 rfl rfl ?_
        refine x_aM C hκ 43 hX7 hs (by omega) (by omega) dX0_findMethod_42 rfl ?_
        obtain ⟨f10a, f10b, f10c, f10d⟩ := hS.M (show 0 ≤ m by omega) (by omega)
        refine z_aload_n C 44 0 dX0_findMethod_43 rfl rfl ?_
        refine z_getf C hκ (v := .ref (σ 1 (0))) 47 0 zk_X0 hX7.o (by decide) q325 (Or.inl rfl) rfl dX0_findMethod_44 rfl ?_
        refine z_iload_n C 48 1 dX0_findMethod_47 rfl rfl ?_
        refine x_aT C hκ 49 hX7 hs (by omega) (by omega) dX0_findMethod_48 rfl ?_
        obtain ⟨f11a, f11b, f11c, f11d, f11e, f11f, f11g, f11h⟩ := hS.T (show 0 ≤ t by omega) (by omega)
        obtain ⟨f11i, f11j, f11k, f11l⟩ := hs.ty (show 0 ≤ t by omega) (by omega)
        refine z_callI (As := [.ref (σ 0 (0)), .int (iI (y)), .ref (σ 20 (m)), .ref (σ 10 (t))]) (rest := [.ref (a4)]) C hκ hκl 52 (k20_init_20 hT (a4) (σ 0 (0)) (y) (σ 20 (m)) (σ 10 (t)) r_y o9) dX0_findMethod_49 q910 q911 q114 q912 znX20_init rfl (Nat.le_of_ble_eq_true rfl) (Nat.le_of_ble_eq_true rfl) (Nat.le_of_ble_eq_true rfl) (Nat.le_of_ble_eq_true rfl) rfl (Nat.le_of_ble_eq_true rfl) rfl (fun v9 Q9 h9 => ?_)
        obtain ⟨rfl, Mr12, mtr12, rfl, fxr12, oar12, hmtr12, gmtr12, imtr12⟩ := h9
        have ne13 : a4 ≠ mtr12 := fun z9 => by have z8 := o9; rw [z9, gmtr12] at z8; cases z8
        have fr14 : xFr σ w (xL w) mtr12 := hX7.fr gmtr12
        have fr15 : M mtr12 = none := ge8.no gmtr12
        have hX16 : xM θ σ w (xL w) Mr12 := hX7.fx fxr12 fr5
        have ge17 : zGe M Mr12 := ge8.fx fxr12 fr6
        refine z_as (Pic' := zP θ Mr12 N) (st' := [.ref (a4)]) rfl rfl rfl ?_
        refine z_widen (n' := 2) (k' := 66) (Nat.le_refl _) (Nat.le_refl _) ?_
        refine z_aload_n C 53 0 dX0_findMethod_52 rfl rfl ?_
        refine z_getf C hκ (v := .ref (σ 1 (0))) 56 0 zk_X0 hX16.o (by decide) q325 (Or.inl rfl) rfl dX0_findMethod_53 rfl ?_
        refine z_iload_n C 57 1 dX0_findMethod_56 rfl rfl ?_
        refine x_aT C hκ 58 hX16 hs (by omega) (by omega) dX0_findMethod_57 rfl ?_
        refine z_as (Pic' := zP θ (zup Mr12 mtr12 (metE θ (fun _ => false))) N) (congrArg (fun z9 => zP θ z9 N) (zup_id hmtr12).symm) rfl rfl ?_
        refine z_callU (owner := RX19) (As := [.ref (σ 10 (t))]) (rest := []) C hκ hκl 61 (xSr_all_20 hX16 hs hw hT a4 mtr12 y m t r_y oar12 ⟨by omega, by omega⟩ ⟨by omega, by omega⟩ ne13 fr14 hUq 60 (t) (fun _ => false) ⟨by omega, by omega⟩ (by omega)) dX0_findMethod_58 q940 q941 q943 q944 q113 q945 rfl ⟨by decide, by decide, rfl⟩ (Nat.le_of_ble_eq_true rfl) (Nat.le_of_ble_eq_true rfl) (Nat.le_of_ble_eq_true rfl) (Nat.le_of_ble_eq_true rfl) (zrec_P (show zup Mr12 mtr12 _ a4 = _ from (zup_n ne13).trans oar12)) rfl rfl (Nat.le_of_ble_eq_true rfl) rfl (fun v9 Q9 h9 => ?_)
        obtain ⟨rfl, rfl⟩ := h9
        obtain ⟨M2, eM2⟩ : ∃ z9 : zMap, zup Mr12 mtr12 (metE θ ((sF (xmO w t m y) (xCh w y true) 60 (t) (fun _ => false)).2) : va_E) = z9 := ⟨_, rfl⟩
        rw [eM2]
        have o18 : M2 a4 = some (.inr (20, [.ref (mtr12), .int (iI (y)), .ref ((σ 0 (0))), .ref ((σ 20 (m))), .ref ((σ 10 (t))), .ref ((σ 0 (0)))])) := eM2 ▸ (zup_n ne13).trans oar12
        have hX19 : xM θ σ w (xL w) M2 := eM2 ▸ hX16.up fr14
        have ge20 : zGe M M2 := eM2 ▸ ge17.up fr15
        have o21 : M2 mtr12 = some (metE θ ((sF (xmO w t m y) (xCh w y true) 60 (t) (fun _ => false)).2)) := eM2 ▸ zup_s
        have hsr9 := sF_r (o := (xmO w t m y)) (ch := (xCh w y true)) (N := w 11 0) (fun u => xmO_r (by omega)) (by omega) 60 (t) (fun _ => false)
        refine z_as (st' := [va_rf (xo σ 20 ((sF (xmO w t m y) (xCh w y true) 60 (t) (fun _ => false)).1))]) rfl rfl rfl ?_
        refine z_callS (As := [va_rf (xo σ 20 ((sF (xmO w t m y) (xCh w y true) 60 (t) (fun _ => false)).1))]) (rest := []) C hκ hκl 64 (k0_told hX19 hs hw hT ((sF (xmO w t m y) (xCh w y true) 60 (t) (fun _ => false)).1) ⟨by omega, by omega⟩) dX0_findMethod_61 q1201 q1202 q90 q1203 znX0_told (Nat.le_of_ble_eq_true rfl) (Nat.le_of_ble_eq_true rfl) (Nat.le_of_ble_eq_true rfl) (Nat.le_of_ble_eq_true rfl) rfl (Nat.le_of_ble_eq_true rfl) rfl (fun v9 Q9 h9 => ?_)
        obtain ⟨rfl, rfl⟩ := h9
        refine z_as (st' := [.int (iI (((sF (xmO w t m y) (xCh w y true) 60 (t) (fun _ => false)).1)))]) rfl rfl rfl ?_
        exact z_iret C dX0_findMethod_64 rfl (Nat.le_of_ble_eq_true rfl) (Nat.le_of_ble_eq_true rfl) ⟨congrArg (fun z => some (Value.int (iI z))) (by unfold fmI; rw [if_neg (by simp_all), fnI_x hS (by omega) (by simp_all)]), M2, rfl, ge20⟩
      · skip
        have c3b : ¬ (((0) ≤ (y) ∧ (y) ≤ (2))) := of_decide_eq_false c3
        refine z_bipush C 30 dX0_findMethod_28 (by decide) rfl ?_
        exact z_iret C dX0_findMethod_30 rfl (Nat.le_of_ble_eq_true rfl) (Nat.le_of_ble_eq_true rfl) ⟨congrArg (fun z => some (Value.int (iI z))) (by clear C hκ hκl hS hB hB1 hB2 hB3 hB4 hB5 hB6 hC hw hX hs hT h81 h82; unfold fmI; rw [if_pos (by first | (simp_all; done) | (simp_all <;> omega))]), M, rfl, ge0⟩
