/-! ===== cause ===== -/
set_option maxRecDepth 100000 in
theorem k0_cause {l : Launch} {θ : zTh} {σ : xA} {w : mW} {M N : zMap} (hX : xM θ σ w (xL w) M) (hs : xS w) (hw : mWF w) (hT : zTb θ) (k : Int) (m : Int) (n : Int) (r_k : inR k) (r_n : inR n) (hZ : zTx θ l) (hm : 0 ≤ m ∧ m < w 11 0) : ZM θ l yX0_cause cX0_cause 4 (some (.object "ReflectMirror$Refusal")) ⟨4, 1, 7, 109⟩ [.ref (σ 0 (0)), .int (iI (k)), .ref (σ 20 (m)), .int (iI (n))] (zP θ M N) (fun v9 Q9 => ∃ (b : Nat) (M' : zMap), v9 = some (.ref b) ∧ Q9 = zP θ M' N ∧ zFx (σ 0 0) M M' ∧ M b = none ∧ M' b = some (xRf 9) ∧ M' (σ 0 0) = some (.inr (0, [.ref (σ 1 0), .int (iI (w 0 0)), .ref (σ 2 0), .int (iI (w 11 0)), .int (iI (w 12 0)), .ref (σ 3 0), .int (iI (w 27 0)), .ref (σ 4 0), .ref (σ 10 (w 34 0)), .ref (σ 5 0), .ref (σ 6 0), .int (iI k), .int (iI m), .int (iI n)]))) := by
  refine z_start (own := RX0) (nm := "cause") pnX0 rfl rfl (Nat.le_of_ble_eq_true rfl) ?_
  intro κ hκ hκl C
  change Z κ (zP θ M N) 0 0 0 [(0, .ref (σ 0 (0))), (1, .int (iI (k))), (2, .ref (σ 20 (m))), (3, .int (iI (n)))] []
  have hS := hs.S
  have hB := hS.B
  obtain ⟨hB1, hB2, hB3, hB4, hB5, hB6⟩ := hS.B
  have hC := hS.C
  obtain ⟨h81, h82⟩ := hs.r8
  have hno9 : σ 0 (0) ≠ σ 20 (m) := hX.ne (Or.inl ⟨by decide, rfl⟩) (Or.inr (Or.inr (Or.inl ⟨Or.inl rfl, hm.1, hm.2⟩))) (by decide)
  have ho09 := hX.o
  have hm09 := hX.mem hm.1 hm.2
  have fx09 : zFx (σ 0 (0)) M M := zFx.rf
  refine z_aload_n C 1 0 dX0_cause_0 rfl rfl ?_
  refine z_iload_n C 2 1 dX0_cause_1 rfl rfl ?_
  refine z_putf (fs' := [.ref (σ 1 (0)), .int (iI (w 0 0)), .ref (σ 2 (0)), .int (iI (w 11 0)), .int (iI (w 12 0)), .ref (σ 3 (0)), .int (iI (w 27 0)), .ref (σ 4 (0)), .ref (σ 10 (w 34 0)), .ref (σ 5 (0)), .ref (σ 6 (0)), .int (iI (k)), .int (iI (w 38 0)), .int (iI (w 39 0))]) C hκ 5 11 zk_X0 ho09 (by decide) q338 (Or.inl rfl) rfl rfl rfl (Nat.le_of_ble_eq_true rfl) rfl dX0_cause_2 rfl ?_
  obtain ⟨M1, eM1⟩ : ∃ z9 : zMap, zup M (σ 0 (0)) (.inr (0, [.ref (σ 1 (0)), .int (iI (w 0 0)), .ref (σ 2 (0)), .int (iI (w 11 0)), .int (iI (w 12 0)), .ref (σ 3 (0)), .int (iI (w 27 0)), .ref (σ 4 (0)), .ref (σ 10 (w 34 0)), .ref (σ 5 (0)), .ref (σ 6 (0)), .int (iI (k)), .int (iI (w 38 0)), .int (iI (w 39 0))]) : va_E) = z9 := ⟨_, rfl⟩
  rw [eM1]
  have o1 : M1 (σ 20 (m)) = some (.inr (9, [.int (iI (m)), .ref (σ 10 (w 13 (m))), .int (iI (w 14 (m))), .int (iI (w 15 (m))), .int (iI (bI (mb w 16 (m)))), va_rf (xo σ 10 (w 17 (m))), .ref (σ 21 (m)), .int (iI (w 18 (m))), .int (iI (bI (mb w 20 (m)))), .int (iI (bI (mb w 21 (m)))), va_rf (if xHasBody w (m) then some (σ 22 (m)) else none), va_rf (if xHasRow w (m) then some (σ 23 (m)) else none)])) := eM1 ▸ (zup_n (fun z9 => hno9 z9.symm)).trans hm09
  have fx2 : zFx (σ 0 (0)) M M1 := eM1 ▸ fx09.up (Or.inr rfl)
  have o3 : M1 (σ 0 (0)) = some (.inr (0, [.ref (σ 1 (0)), .int (iI (w 0 0)), .ref (σ 2 (0)), .int (iI (w 11 0)), .int (iI (w 12 0)), .ref (σ 3 (0)), .int (iI (w 27 0)), .ref (σ 4 (0)), .ref (σ 10 (w 34 0)), .ref (σ 5 (0)), .ref (σ 6 (0)), .int (iI (k)), .int (iI (w 38 0)), .int (iI (w 39 0))])) := eM1 ▸ zup_s
  refine z_aload_n C 6 0 dX0_cause_5 rfl rfl ?_
  refine z_aload_n C 7 2 dX0_cause_6 rfl rfl ?_
  refine z_getfN C hκ hT (v := .int (iI (m))) 10 0 zk_X9 o1 (by decide) q655 (Or.inl rfl) rfl dX0_cause_7 rfl ?_
  refine z_putf (fs' := [.ref (σ 1 (0)), .int (iI (w 0 0)), .ref (σ 2 (0)), .int (iI (w 11 0)), .int (iI (w 12 0)), .ref (σ 3 (0)), .int (iI (w 27 0)), .ref (σ 4 (0)), .ref (σ 10 (w 34 0)), .ref (σ 5 (0)), .ref (σ 6 (0)), .int (iI (k)), .int (iI (m)), .int (iI (w 39 0))]) C hκ 13 12 zk_X0 o3 (by decide) q339 (Or.inl rfl) rfl rfl rfl (Nat.le_of_ble_eq_true rfl) rfl dX0_cause_10 rfl ?_
  obtain ⟨M2, eM2⟩ : ∃ z9 : zMap, zup M1 (σ 0 (0)) (.inr (0, [.ref (σ 1 (0)), .int (iI (w 0 0)), .ref (σ 2 (0)), .int (iI (w 11 0)), .int (iI (w 12 0)), .ref (σ 3 (0)), .int (iI (w 27 0)), .ref (σ 4 (0)), .ref (σ 10 (w 34 0)), .ref (σ 5 (0)), .ref (σ 6 (0)), .int (iI (k)), .int (iI (m)), .int (iI (w 39 0))]) : va_E) = z9 := ⟨_, rfl⟩
  rw [eM2]
  have o4 : M2 (σ 20 (m)) = some (.inr (9, [.int (iI (m)), .ref (σ 10 (w 13 (m))), .int (iI (w 14 (m))), .int (iI (w 15 (m))), .int (iI (bI (mb w 16 (m)))), va_rf (xo σ 10 (w 17 (m))), .ref (σ 21 (m)), .int (iI (w 18 (m))), .int (iI (bI (mb w 20 (m)))), .int (iI (bI (mb w 21 (m)))), va_rf (if xHasBody w (m) then some (σ 22 (m)) else none), va_rf (if xHasRow w (m) then some (σ 23 (m)) else none)])) := eM2 ▸ (zup_n (fun z9 => hno9 z9.symm)).trans o1
  have fx5 : zFx (σ 0 (0)) M M2 := eM2 ▸ fx2.up (Or.inr rfl)
  have o6 : M2 (σ 0 (0)) = some (.inr (0, [.ref (σ 1 (0)), .int (iI (w 0 0)), .ref (σ 2 (0)), .int (iI (w 11 0)), .int (iI (w 12 0)), .ref (σ 3 (0)), .int (iI (w 27 0)), .ref (σ 4 (0)), .ref (σ 10 (w 34 0)), .ref (σ 5 (0)), .ref (σ 6 (0)), .int (iI (k)), .int (iI (m)), .int (iI (w 39 0))])) := eM2 ▸ zup_s
  refine z_aload_n C 14 0 dX0_cause_13 rfl rfl ?_
  refine z_iload_n C 15 3 dX0_cause_14 rfl rfl ?_
  refine z_putf (fs' := [.ref (σ 1 (0)), .int (iI (w 0 0)), .ref (σ 2 (0)), .int (iI (w 11 0)), .int (iI (w 12 0)), .ref (σ 3 (0)), .int (iI (w 27 0)), .ref (σ 4 (0)), .ref (σ 10 (w 34 0)), .ref (σ 5 (0)), .ref (σ 6 (0)), .int (iI (k)), .int (iI (m)), .int (iI (n))]) C hκ 18 13 zk_X0 o6 (by decide) q340 (Or.inl rfl) rfl rfl rfl (Nat.le_of_ble_eq_true rfl) rfl dX0_cause_15 rfl ?_
  obtain ⟨M3, eM3⟩ : ∃ z9 : zMap, zup M2 (σ 0 (0)) (.inr (0, [.ref (σ 1 (0)), .int (iI (w 0 0)), .ref (σ 2 (0)), .int (iI (w 11 0)), .int (iI (w 12 0)), .ref (σ 3 (0)), .int (iI (w 27 0)), .ref (σ 4 (0)), .ref (σ 10 (w 34 0)), .ref (σ 5 (0)), .ref (σ 6 (0)), .int (iI (k)), .int (iI (m)), .int (iI (n))]) : va_E) = z9 := ⟨_, rfl⟩
  rw [eM3]
  have o7 : M3 (σ 20 (m)) = some (.inr (9, [.int (iI (m)), .ref (σ 10 (w 13 (m))), .int (iI (w 14 (m))), .int (iI (w 15 (m))), .int (iI (bI (mb w 16 (m)))), va_rf (xo σ 10 (w 17 (m))), .ref (σ 21 (m)), .int (iI (w 18 (m))), .int (iI (bI (mb w 20 (m)))), .int (iI (bI (mb w 21 (m)))), va_rf (if xHasBody w (m) then some (σ 22 (m)) else none), va_rf (if xHasRow w (m) then some (σ 23 (m)) else none)])) := eM3 ▸ (zup_n (fun z9 => hno9 z9.symm)).trans o4
  have fx8 : zFx (σ 0 (0)) M M3 := eM3 ▸ fx5.up (Or.inr rfl)
  have o9 : M3 (σ 0 (0)) = some (.inr (0, [.ref (σ 1 (0)), .int (iI (w 0 0)), .ref (σ 2 (0)), .int (iI (w 11 0)), .int (iI (w 12 0)), .ref (σ 3 (0)), .int (iI (w 27 0)), .ref (σ 4 (0)), .ref (σ 10 (w 34 0)), .ref (σ 5 (0)), .ref (σ 6 (0)), .int (iI (k)), .int (iI (m)), .int (iI (n))])) := eM3 ▸ zup_s
  refine z_new (fs := [.null, .null, .null, .null, .null, .int (iI (0)), .int (iI (0))]) C hκ 21 zk_X25 q1300 q1495 q130 (fun j9 h9 => match j9, h9 with | 0, _ => rfl | 1, _ => rfl | 2, _ => rfl | 3, _ => rfl | 4, _ => rfl | 5, _ => rfl | 6, _ => rfl | (j9 + 7), h9 => absurd h9 (by omega)) (Nat.le_of_ble_eq_true rfl) (Nat.le_of_ble_eq_true rfl) dX0_cause_18 rfl (fun a10 a10M a10N => ?_)
  refine z_widen (n' := 1) (k' := 7) (Nat.le_refl _) (Nat.le_refl _) ?_
  have ne11 : σ 0 (0) ≠ a10 := fun z9 => by have z8 := o9; rw [z9, a10M] at z8; cases z8
  have ne12 : σ 20 (m) ≠ a10 := fun z9 => by have z8 := o7; rw [z9, a10M] at z8; cases z8
  have no13 : M a10 = none := fx8.no a10M (fun z9 => ne11 z9.symm)
  obtain ⟨M4, eM4⟩ : ∃ z9 : zMap, zup M3 a10 (.inr (25, [.null, .null, .null, .null, .null, .int (iI (0)), .int (iI (0))]) : va_E) = z9 := ⟨_, rfl⟩
  rw [eM4]
  have o14 : M4 (σ 0 (0)) = some (.inr (0, [.ref (σ 1 (0)), .int (iI (w 0 0)), .ref (σ 2 (0)), .int (iI (w 11 0)), .int (iI (w 12 0)), .ref (σ 3 (0)), .int (iI (w 27 0)), .ref (σ 4 (0)), .ref (σ 10 (w 34 0)), .ref (σ 5 (0)), .ref (σ 6 (0)), .int (iI (k)), .int (iI (m)), .int (iI (n))])) := eM4 ▸ (zup_n ne11).trans o9
  have o15 : M4 (σ 20 (m)) = some (.inr (9, [.int (iI (m)), .ref (σ 10 (w 13 (m))), .int (iI (w 14 (m))), .int (iI (w 15 (m))), .int (iI (bI (mb w 16 (m)))), va_rf (xo σ 10 (w 17 (m))), .ref (σ 21 (m)), .int (iI (w 18 (m))), .int (iI (bI (mb w 20 (m)))), .int (iI (bI (mb w 21 (m)))), va_rf (if xHasBody w (m) then some (σ 22 (m)) else none), va_rf (if xHasRow w (m) then some (σ 23 (m)) else none)])) := eM4 ▸ (zup_n ne12).trans o7
  have fx16 : zFx (σ 0 (0)) M M4 := eM4 ▸ fx8.up (Or.inl no13)
  have o17 : M4 a10 = some (.inr (25, [.null, .null, .null, .null, .null, .int (iI (0)), .int (iI (0))])) := eM4 ▸ zup_s
  refine z_dup C 22 dX0_cause_21 rfl rfl ?_
  refine z_bipush C 24 dX0_cause_22 (by decide) rfl ?_
  refine z_callI (As := [.int (iI (9))]) (rest := [.ref (a10)]) C hκ hκl 27 (k25_init_25 hT (a10) (9) ⟨by decide, by decide⟩ hZ o17) dX0_cause_24 q1503 q1504 q130 q1505 znX25_init rfl (Nat.le_of_ble_eq_true rfl) (Nat.le_of_ble_eq_true rfl) (Nat.le_of_ble_eq_true rfl) (Nat.le_of_ble_eq_true rfl) rfl (Nat.le_of_ble_eq_true rfl) rfl (fun v9 Q9 h9 => ?_)
  obtain ⟨rfl, rfl⟩ := h9
  obtain ⟨M5, eM5⟩ : ∃ z9 : zMap, zup M4 a10 (.inr (25, [.null, .null, .null, .null, .null, .int (iI (0)), .int (iI (9))]) : va_E) = z9 := ⟨_, rfl⟩
  rw [eM5]
  have o18 : M5 (σ 0 (0)) = some (.inr (0, [.ref (σ 1 (0)), .int (iI (w 0 0)), .ref (σ 2 (0)), .int (iI (w 11 0)), .int (iI (w 12 0)), .ref (σ 3 (0)), .int (iI (w 27 0)), .ref (σ 4 (0)), .ref (σ 10 (w 34 0)), .ref (σ 5 (0)), .ref (σ 6 (0)), .int (iI (k)), .int (iI (m)), .int (iI (n))])) := eM5 ▸ (zup_n ne11).trans o14
  have o19 : M5 (σ 20 (m)) = some (.inr (9, [.int (iI (m)), .ref (σ 10 (w 13 (m))), .int (iI (w 14 (m))), .int (iI (w 15 (m))), .int (iI (bI (mb w 16 (m)))), va_rf (xo σ 10 (w 17 (m))), .ref (σ 21 (m)), .int (iI (w 18 (m))), .int (iI (bI (mb w 20 (m)))), .int (iI (bI (mb w 21 (m)))), va_rf (if xHasBody w (m) then some (σ 22 (m)) else none), va_rf (if xHasRow w (m) then some (σ 23 (m)) else none)])) := eM5 ▸ (zup_n ne12).trans o15
  have fx20 : zFx (σ 0 (0)) M M5 := eM5 ▸ fx16.up (Or.inl no13)
  have o21 : M5 a10 = some (.inr (25, [.null, .null, .null, .null, .null, .int (iI (0)), .int (iI (9))])) := eM5 ▸ zup_s
  refine z_as (st' := [.ref (a10)]) rfl rfl rfl ?_
  exact z_aret C dX0_cause_27 (Or.inl ⟨_, rfl⟩) (Or.inr ⟨_, rfl⟩) (Nat.le_of_ble_eq_true rfl) (Nat.le_of_ble_eq_true rfl) ⟨a10, M5, rfl, rfl, fx20, no13, o21, o18⟩
