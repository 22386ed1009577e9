set_option maxRecDepth 100000 in
theorem k19_init_22 {l : Launch} {θ : zTh} {M N : zMap} (hT : zTb θ) (a : Nat) (u : Nat) (y : Int) (r_y : inR y) (hM : M a = some (.inr (22, [.null, .int (iI (0)), .null, .int (iI (0)), .ref (u)]))) : ZM θ l yX19_init cX19_init 3 none ⟨1, 1, 60, 40⟩ [.ref (a), .ref (u), .int (iI (y))] (zP θ M N) (fun v9 Q9 => v9 = none ∧ ∃ M' : zMap, ∃ mt : Nat, Q9 = zP θ M' N ∧ zFx a M M' ∧ M' a = some (.inr (22, [.ref (mt), .int (iI (y)), .ref (u), .int (iI (0)), .ref (u)])) ∧ M' mt = some (metE θ (fun _ => false)) ∧ M mt = none ∧ mt ≠ a) := by
  refine z_start (own := RX19) (nm := "<init>") pnX19 rfl rfl (Nat.le_of_ble_eq_true rfl) ?_
  intro κ hκ hκl C
  change Z κ (zP θ M N) 0 0 0 [(0, .ref (a)), (1, .ref (u)), (2, .int (iI (y)))] []
  have fx0 : zFx a M M := zFx.rf
  refine z_aload_n C 1 0 dX19_init_0 rfl rfl ?_
  refine z_aload_n C 2 1 dX19_init_1 rfl rfl ?_
  refine z_putF (fs' := [.null, .int (iI (0)), .ref (u), .int (iI (0)), .ref (u)]) C hκ 5 2 zk_X22 hM (by decide) q926 (Or.inl rfl) rfl rfl rfl rfl (Nat.le_of_ble_eq_true rfl) rfl dX19_init_2 rfl ?_
  obtain ⟨M1, eM1⟩ : ∃ z9 : zMap, zup M a (.inr (22, [.null, .int (iI (0)), .ref (u), .int (iI (0)), .ref (u)]) : va_E) = z9 := ⟨_, rfl⟩
  rw [eM1]
  have fx1 : zFx a M M1 := eM1 ▸ fx0.up (Or.inr rfl)
  have o2 : M1 a = some (.inr (22, [.null, .int (iI (0)), .ref (u), .int (iI (0)), .ref (u)])) := eM1 ▸ zup_s
  refine z_aload_n C 6 0 dX19_init_5 rfl rfl ?_
  refine z_objInit C 9 dX19_init_6 q916 q145 q146 (Nat.le_of_ble_eq_true rfl) (Nat.le_of_ble_eq_true rfl) rfl ?_
  refine z_aload_n C 10 0 dX19_init_9 rfl rfl ?_
  refine z_bipush C 12 dX19_init_10 (by decide) rfl ?_
  refine z_newa_z (f := (fun j : Nat => iI (bI ((fun _ => false : Int → Bool) (j : Int))))) C hκ 14 60 (by decide) (by decide) (fun _ => rfl) q216 (Nat.le_of_ble_eq_true rfl) (Nat.le_of_ble_eq_true rfl) dX19_init_12 rfl (fun a3 a3M a3N => ?_)
  refine z_widen (n' := 1) (k' := 60) (Nat.le_refl _) (Nat.le_refl _) ?_
  have ne4 : a ≠ a3 := fun z9 => by have z8 := o2; rw [z9, a3M] at z8; cases z8
  have no5 : M a3 = none := fx1.no a3M (fun z9 => ne4 z9.symm)
  obtain ⟨M2, eM2⟩ : ∃ z9 : zMap, zup M1 a3 (.inl (θ.2.1 0, 60, .inl (fun j : Nat => iI (bI ((fun _ => false : Int → Bool) (j : Int))))) : va_E) = z9 := ⟨_, rfl⟩
  rw [eM2]
  have o6 : M2 a = some (.inr (22, [.null, .int (iI (0)), .ref (u), .int (iI (0)), .ref (u)])) := eM2 ▸ (zup_n ne4).trans o2
  have fx7 : zFx a M M2 := eM2 ▸ fx1.up (Or.inl no5)
  have o8 : M2 a3 = some (.inl (θ.2.1 0, 60, .inl (fun j : Nat => iI (bI ((fun _ => false : Int → Bool) (j : Int)))))) := eM2 ▸ zup_s
  refine z_putF (fs' := [.ref (a3), .int (iI (0)), .ref (u), .int (iI (0)), .ref (u)]) C hκ 17 0 zk_X22 o6 (by decide) q920 (Or.inl rfl) rfl rfl rfl rfl (Nat.le_of_ble_eq_true rfl) rfl dX19_init_14 rfl ?_
  obtain ⟨M3, eM3⟩ : ∃ z9 : zMap, zup M2 a (.inr (22, [.ref (a3), .int (iI (0)), .ref (u), .int (iI (0)), .ref (u)]) : va_E) = z9 := ⟨_, rfl⟩
  rw [eM3]
  have o9 : M3 a3 = some (.inl (θ.2.1 0, 60, .inl (fun j : Nat => iI (bI ((fun _ => false : Int → Bool) (j : Int)))))) := eM3 ▸ (zup_n (fun z9 => ne4 z9.symm)).trans o8
  have fx10 : zFx a M M3 := eM3 ▸ fx7.up (Or.inr rfl)
  have o11 : M3 a = some (.inr (22, [.ref (a3), .int (iI (0)), .ref (u), .int (iI (0)), .ref (u)])) := eM3 ▸ zup_s
  refine z_aload_n C 18 0 dX19_init_17 rfl rfl ?_
  refine z_iload_n C 19 2 dX19_init_18 rfl rfl ?_
  refine z_putF (fs' := [.ref (a3), .int (iI (y)), .ref (u), .int (iI (0)), .ref (u)]) C hκ 22 1 zk_X22 o11 (by decide) q921 (Or.inl rfl) rfl rfl rfl rfl (Nat.le_of_ble_eq_true rfl) rfl dX19_init_19 rfl ?_
  obtain ⟨M4, eM4⟩ : ∃ z9 : zMap, zup M3 a (.inr (22, [.ref (a3), .int (iI (y)), .ref (u), .int (iI (0)), .ref (u)]) : va_E) = z9 := ⟨_, rfl⟩
  rw [eM4]
  have o12 : M4 a3 = some (.inl (θ.2.1 0, 60, .inl (fun j : Nat => iI (bI ((fun _ => false : Int → Bool) (j : Int)))))) := eM4 ▸ (zup_n (fun z9 => ne4 z9.symm)).trans o9
  have fx13 : zFx a M M4 := eM4 ▸ fx10.up (Or.inr rfl)
  have o14 : M4 a = some (.inr (22, [.ref (a3), .int (iI (y)), .ref (u), .int (iI (0)), .ref (u)])) := eM4 ▸ zup_s
  exact z_vret C dX19_init_22 (Nat.le_of_ble_eq_true rfl) (Nat.le_of_ble_eq_true rfl) ⟨rfl, M4, a3, rfl, fx13, o14, o12, no5, (fun z9 => ne4 z9.symm)⟩
set_option maxRecDepth 100000 in
theorem k22_init_22 {l : Launch} {θ : zTh} {M N : zMap} (hT : zTb θ) (a : Nat) (u : Nat) (y : Int) (n : Int) (r_y : inR y) (r_n : inR n) (hM : M a = some (.inr (22, [.null, .int (iI (0)), .null, .int (iI (0)), .null]))) : ZM θ l yX22_init cX22_init 4 none ⟨2, 1, 60, 62⟩ [.ref (a), .ref (u), .int (iI (y)), .int (iI (n))] (zP θ M N) (fun v9 Q9 => v9 = none ∧ ∃ M' : zMap, ∃ mt : Nat, Q9 = zP θ M' N ∧ zFx a M M' ∧ M' a = some (.inr (22, [.ref (mt), .int (iI (y)), .ref (u), .int (iI (n)), .ref (u)])) ∧ M' mt = some (metE θ (fun _ => false)) ∧ M mt = none ∧ mt ≠ a) := by
  refine z_start (own := RX22) (nm := "<init>") pnX22 rfl rfl (Nat.le_of_ble_eq_true rfl) ?_
  intro κ hκ hκl C
  change Z κ (zP θ M N) 0 0 0 [(0, .ref (a)), (1, .ref (u)), (2, .int (iI (y))), (3, .int (iI (n)))] []
  have fx0 : zFx a M M := zFx.rf
  refine z_aload_n C 1 0 dX22_init_0 rfl rfl ?_
  refine z_aload_n C 2 1 dX22_init_1 rfl rfl ?_
  refine z_putF (fs' := [.null, .int (iI (0)), .null, .int (iI (0)), .ref (u)]) C hκ 5 4 zk_X22 hM (by decide) q1189 (Or.inl rfl) rfl rfl rfl rfl (Nat.le_of_ble_eq_true rfl) rfl dX22_init_2 rfl ?_
  obtain ⟨M1, eM1⟩ : ∃ z9 : zMap, zup M a (.inr (22, [.null, .int (iI (0)), .null, .int (iI (0)), .ref (u)]) : va_E) = z9 := ⟨_, rfl⟩
  rw [eM1]
  have fx1 : zFx a M M1 := eM1 ▸ fx0.up (Or.inr rfl)
  have o2 : M1 a = some (.inr (22, [.null, .int (iI (0)), .null, .int (iI (0)), .ref (u)])) := eM1 ▸ zup_s
  refine z_aload_n C 6 0 dX22_init_5 rfl rfl ?_
  refine z_aload_n C 7 1 dX22_init_6 rfl rfl ?_
  refine z_iload_n C 8 2 dX22_init_7 rfl rfl ?_
  refine z_callI (As := [.ref (u), .int (iI (y))]) (rest := []) C hκ hκl 11 (k19_init_22 hT (a) (u) (y) r_y o2) dX22_init_8 q1187 q914 q113 q915 znX19_init rfl (Nat.le_of_ble_eq_true rfl) (Nat.le_of_ble_eq_true rfl) (Nat.le_of_ble_eq_true rfl) (Nat.le_of_ble_eq_true rfl) rfl (Nat.le_of_ble_eq_true rfl) rfl (fun v9 Q9 h9 => ?_)
  obtain ⟨rfl, Mr3, mtr3, rfl, fxr3, oar3, hmtr3, gmtr3, imtr3⟩ := h9
  have ne4 : a ≠ mtr3 := fun z9 => by have z8 := o2; rw [z9, gmtr3] at z8; cases z8
  have fx5 : zFx a M Mr3 := fx1.fx fxr3 (Or.inr rfl)
  refine z_as (Pic' := zP θ Mr3 N) (st' := []) rfl rfl rfl ?_
  refine z_widen (n' := 1) (k' := 60) (Nat.le_refl _) (Nat.le_refl _) ?_
  refine z_aload_n C 12 0 dX22_init_11 rfl rfl ?_
  refine z_iload_n C 13 3 dX22_init_12 rfl rfl ?_
  refine z_putF (fs' := [.ref (mtr3), .int (iI (y)), .ref (u), .int (iI (n)), .ref (u)]) C hκ 16 3 zk_X22 oar3 (by decide) q1188 (Or.inl rfl) rfl rfl rfl rfl (Nat.le_of_ble_eq_true rfl) rfl dX22_init_13 rfl ?_
  obtain ⟨M2, eM2⟩ : ∃ z9 : zMap, zup Mr3 a (.inr (22, [.ref (mtr3), .int (iI (y)), .ref (u), .int (iI (n)), .ref (u)]) : va_E) = z9 := ⟨_, rfl⟩
  rw [eM2]
  have o6 : M2 mtr3 = some (metE θ (fun _ => false)) := eM2 ▸ (zup_n imtr3).trans hmtr3
  have fx7 : zFx a M M2 := eM2 ▸ fx5.up (Or.inr rfl)
  have o8 : M2 a = some (.inr (22, [.ref (mtr3), .int (iI (y)), .ref (u), .int (iI (n)), .ref (u)])) := eM2 ▸ zup_s
  exact z_vret C dX22_init_16 (Nat.le_of_ble_eq_true rfl) (Nat.le_of_ble_eq_true rfl) ⟨rfl, M2, mtr3, rfl, fx7, o8, o6, (fx1.no gmtr3 imtr3), (fun z9 => ne4 z9.symm)⟩
set_option maxRecDepth 100000 in
theorem k19_init_20 {l : Launch} {θ : zTh} {M N : zMap} (hT : zTb θ) (a : Nat) (u : Nat) (y : Int) (r_y : inR y) (hM : M a = some (.inr (20, [.null, .int (iI (0)), .null, .null, .null, .ref (u)]))) : ZM θ l yX19_init cX19_init 3 none ⟨1, 1, 60, 40⟩ [.ref (a), .ref (u), .int (iI (y))] (zP θ M N) (fun v9 Q9 => v9 = none ∧ ∃ M' : zMap, ∃ mt : Nat, Q9 = zP θ M' N ∧ zFx a M M' ∧ M' a = some (.inr (20, [.ref (mt), .int (iI (y)), .ref (u), .null, .null, .ref (u)])) ∧ M' mt = some (metE θ (fun _ => false)) ∧ M mt = none ∧ mt ≠ a) := by
  refine z_start (own := RX19) (nm := "<init>") pnX19 rfl rfl (Nat.le_of_ble_eq_true rfl) ?_
  intro κ hκ hκl C
  change Z κ (zP θ M N) 0 0 0 [(0, .ref (a)), (1, .ref (u)), (2, .int (iI (y)))] []
  have fx0 : zFx a M M := zFx.rf
  refine z_aload_n C 1 0 dX19_init_0 rfl rfl ?_
  refine z_aload_n C 2 1 dX19_init_1 rfl rfl ?_
  refine z_putF (fs' := [.null, .int (iI (0)), .ref (u), .null, .null, .ref (u)]) C hκ 5 2 zk_X20 hM (by decide) q926 (Or.inl rfl) rfl rfl rfl rfl (Nat.le_of_ble_eq_true rfl) rfl dX19_init_2 rfl ?_
  obtain ⟨M1, eM1⟩ : ∃ z9 : zMap, zup M a (.inr (20, [.null, .int (iI (0)), .ref (u), .null, .null, .ref (u)]) : va_E) = z9 := ⟨_, rfl⟩
  rw [eM1]
  have fx1 : zFx a M M1 := eM1 ▸ fx0.up (Or.inr rfl)
  have o2 : M1 a = some (.inr (20, [.null, .int (iI (0)), .ref (u), .null, .null, .ref (u)])) := eM1 ▸ zup_s
  refine z_aload_n C 6 0 dX19_init_5 rfl rfl ?_
  refine z_objInit C 9 dX19_init_6 q916 q145 q146 (Nat.le_of_ble_eq_true rfl) (Nat.le_of_ble_eq_true rfl) rfl ?_
  refine z_aload_n C 10 0 dX19_init_9 rfl rfl ?_
  refine z_bipush C 12 dX19_init_10 (by decide) rfl ?_
  refine z_newa_z (f := (fun j : Nat => iI (bI ((fun _ => false : Int → Bool) (j : Int))))) C hκ 14 60 (by decide) (by decide) (fun _ => rfl) q216 (Nat.le_of_ble_eq_true rfl) (Nat.le_of_ble_eq_true rfl) dX19_init_12 rfl (fun a3 a3M a3N => ?_)
  refine z_widen (n' := 1) (k' := 60) (Nat.le_refl _) (Nat.le_refl _) ?_
  have ne4 : a ≠ a3 := fun z9 => by have z8 := o2; rw [z9, a3M] at z8; cases z8
  have no5 : M a3 = none := fx1.no a3M (fun z9 => ne4 z9.symm)
  obtain ⟨M2, eM2⟩ : ∃ z9 : zMap, zup M1 a3 (.inl (θ.2.1 0, 60, .inl (fun j : Nat => iI (bI ((fun _ => false : Int → Bool) (j : Int))))) : va_E) = z9 := ⟨_, rfl⟩
  rw [eM2]
  have o6 : M2 a = some (.inr (20, [.null, .int (iI (0)), .ref (u), .null, .null, .ref (u)])) := eM2 ▸ (zup_n ne4).trans o2
  have fx7 : zFx a M M2 := eM2 ▸ fx1.up (Or.inl no5)
  have o8 : M2 a3 = some (.inl (θ.2.1 0, 60, .inl (fun j : Nat => iI (bI ((fun _ => false : Int → Bool) (j : Int)))))) := eM2 ▸ zup_s
  refine z_putF (fs' := [.ref (a3), .int (iI (0)), .ref (u), .null, .null, .ref (u)]) C hκ 17 0 zk_X20 o6 (by decide) q920 (Or.inl rfl) rfl rfl rfl rfl (Nat.le_of_ble_eq_true rfl) rfl dX19_init_14 rfl ?_
  obtain ⟨M3, eM3⟩ : ∃ z9 : zMap, zup M2 a (.inr (20, [.ref (a3), .int (iI (0)), .ref (u), .null, .null, .ref (u)]) : va_E) = z9 := ⟨_, rfl⟩
  rw [eM3]
  have o9 : M3 a3 = some (.inl (θ.2.1 0, 60, .inl (fun j : Nat => iI (bI ((fun _ => false : Int → Bool) (j : Int)))))) := eM3 ▸ (zup_n (fun z9 => ne4 z9.symm)).trans o8
  have fx10 : zFx a M M3 := eM3 ▸ fx7.up (Or.inr rfl)
  have o11 : M3 a = some (.inr (20, [.ref (a3), .int (iI (0)), .ref (u), .null, .null, .ref (u)])) := eM3 ▸ zup_s
  refine z_aload_n C 18 0 dX19_init_17 rfl rfl ?_
  refine z_iload_n C 19 2 dX19_init_18 rfl rfl ?_
  refine z_putF (fs' := [.ref (a3), .int (iI (y)), .ref (u), .null, .null, .ref (u)]) C hκ 22 1 zk_X20 o11 (by decide) q921 (Or.inl rfl) rfl rfl rfl rfl (Nat.le_of_ble_eq_true rfl) rfl dX19_init_19 rfl ?_
  obtain ⟨M4, eM4⟩ : ∃ z9 : zMap, zup M3 a (.inr (20, [.ref (a3), .int (iI (y)), .ref (u), .null, .null, .ref (u)]) : va_E) = z9 := ⟨_, rfl⟩
  rw [eM4]
  have o12 : M4 a3 = some (.inl (θ.2.1 0, 60, .inl (fun j : Nat => iI (bI ((fun _ => false : Int → Bool) (j : Int)))))) := eM4 ▸ (zup_n (fun z9 => ne4 z9.symm)).trans o9
  have fx13 : zFx a M M4 := eM4 ▸ fx10.up (Or.inr rfl)
  have o14 : M4 a = some (.inr (20, [.ref (a3), .int (iI (y)), .ref (u), .null, .null, .ref (u)])) := eM4 ▸ zup_s
  exact z_vret C dX19_init_22 (Nat.le_of_ble_eq_true rfl) (Nat.le_of_ble_eq_true rfl) ⟨rfl, M4, a3, rfl, fx13, o14, o12, no5, (fun z9 => ne4 z9.symm)⟩
set_option maxRecDepth 100000 in
theorem k20_init_20 {l : Launch} {θ : zTh} {M N : zMap} (hT : zTb θ) (a : Nat) (u : Nat) (y : Int) (lk : Nat) (tp : Nat) (r_y : inR y) (hM : M a = some (.inr (20, [.null, .int (iI (0)), .null, .null, .null, .null]))) : ZM θ l yX20_init cX20_init 5 none ⟨2, 1, 60, 62⟩ [.ref (a), .ref (u), .int (iI (y)), .ref (lk), .ref (tp)] (zP θ M N) (fun v9 Q9 => v9 = none ∧ ∃ M' : zMap, ∃ mt : Nat, Q9 = zP θ M' N ∧ zFx a M M' ∧ M' a = some (.inr (20, [.ref (mt), .int (iI (y)), .ref (u), .ref (lk), .ref (tp), .ref (u)])) ∧ M' mt = some (metE θ (fun _ => false)) ∧ M mt = none ∧ mt ≠ a) := by
  refine z_start (own := RX20) (nm := "<init>") pnX20 rfl rfl (Nat.le_of_ble_eq_true rfl) ?_
  intro κ hκ hκl C
  change Z κ (zP θ M N) 0 0 0 [(0, .ref (a)), (1, .ref (u)), (2, .int (iI (y))), (3, .ref (lk)), (4, .ref (tp))] []
  have fx0 : zFx a M M := zFx.rf
  refine z_aload_n C 1 0 dX20_init_0 rfl rfl ?_
  refine z_aload_n C 2 1 dX20_init_1 rfl rfl ?_
  refine z_putF (fs' := [.null, .int (iI (0)), .null, .null, .null, .ref (u)]) C hκ 5 5 zk_X20 hM (by decide) q919 (Or.inl rfl) rfl rfl rfl rfl (Nat.le_of_ble_eq_true rfl) rfl dX20_init_2 rfl ?_
  obtain ⟨M1, eM1⟩ : ∃ z9 : zMap, zup M a (.inr (20, [.null, .int (iI (0)), .null, .null, .null, .ref (u)]) : va_E) = z9 := ⟨_, rfl⟩
  rw [eM1]
  have fx1 : zFx a M M1 := eM1 ▸ fx0.up (Or.inr rfl)
  have o2 : M1 a = some (.inr (20, [.null, .int (iI (0)), .null, .null, .null, .ref (u)])) := eM1 ▸ zup_s
  refine z_aload_n C 6 0 dX20_init_5 rfl rfl ?_
  refine z_aload_n C 7 1 dX20_init_6 rfl rfl ?_
  refine z_iload_n C 8 2 dX20_init_7 rfl rfl ?_
  refine z_callI (As := [.ref (u), .int (iI (y))]) (rest := []) C hκ hκl 11 (k19_init_20 hT (a) (u) (y) r_y o2) dX20_init_8 q913 q914 q113 q915 znX19_init rfl (Nat.le_of_ble_eq_true rfl) (Nat.le_of_ble_eq_true rfl) (Nat.le_of_ble_eq_true rfl) (Nat.le_of_ble_eq_true rfl) rfl (Nat.le_of_ble_eq_true rfl) rfl (fun v9 Q9 h9 => ?_)
  obtain ⟨rfl, Mr3, mtr3, rfl, fxr3, oar3, hmtr3, gmtr3, imtr3⟩ := h9
  have ne4 : a ≠ mtr3 := fun z9 => by have z8 := o2; rw [z9, gmtr3] at z8; cases z8
  have fx5 : zFx a M Mr3 := fx1.fx fxr3 (Or.inr rfl)
  refine z_as (Pic' := zP θ Mr3 N) (st' := []) rfl rfl rfl ?_
  refine z_widen (n' := 1) (k' := 60) (Nat.le_refl _) (Nat.le_refl _) ?_
  refine z_aload_n C 12 0 dX20_init_11 rfl rfl ?_
  refine z_aload_n C 13 3 dX20_init_12 rfl rfl ?_
  refine z_putF (fs' := [.ref (mtr3), .int (iI (y)), .ref (u), .ref (lk), .null, .ref (u)]) C hκ 16 3 zk_X20 oar3 (by decide) q917 (Or.inl rfl) rfl rfl rfl rfl (Nat.le_of_ble_eq_true rfl) rfl dX20_init_13 rfl ?_
  obtain ⟨M2, eM2⟩ : ∃ z9 : zMap, zup Mr3 a (.inr (20, [.ref (mtr3), .int (iI (y)), .ref (u), .ref (lk), .null, .ref (u)]) : va_E) = z9 := ⟨_, rfl⟩
  rw [eM2]
  have o6 : M2 mtr3 = some (metE θ (fun _ => false)) := eM2 ▸ (zup_n imtr3).trans hmtr3
  have fx7 : zFx a M M2 := eM2 ▸ fx5.up (Or.inr rfl)
  have o8 : M2 a = some (.inr (20, [.ref (mtr3), .int (iI (y)), .ref (u), .ref (lk), .null, .ref (u)])) := eM2 ▸ zup_s
  refine z_aload_n C 17 0 dX20_init_16 rfl rfl ?_
  refine z_aload C 19 4 dX20_init_17 rfl rfl ?_
  refine z_putF (fs' := [.ref (mtr3), .int (iI (y)), .ref (u), .ref (lk), .ref (tp), .ref (u)]) C hκ 22 4 zk_X20 o8 (by decide) q918 (Or.inl rfl) rfl rfl rfl rfl (Nat.le_of_ble_eq_true rfl) rfl dX20_init_19 rfl ?_
  obtain ⟨M3, eM3⟩ : ∃ z9 : zMap, zup M2 a (.inr (20, [.ref (mtr3), .int (iI (y)), .ref (u), .ref (lk), .ref (tp), .ref (u)]) : va_E) = z9 := ⟨_, rfl⟩
  rw [eM3]
  have o9 : M3 mtr3 = some (metE θ (fun _ => false)) := eM3 ▸ (zup_n imtr3).trans o6
  have fx10 : zFx a M M3 := eM3 ▸ fx7.up (Or.inr rfl)
  have o11 : M3 a = some (.inr (20, [.ref (mtr3), .int (iI (y)), .ref (u), .ref (lk), .ref (tp), .ref (u)])) := eM3 ▸ zup_s
  exact z_vret C dX20_init_22 (Nat.le_of_ble_eq_true rfl) (Nat.le_of_ble_eq_true rfl) ⟨rfl, M3, mtr3, rfl, fx10, o11, o9, (fx1.no gmtr3 imtr3), (fun z9 => ne4 z9.symm)⟩
