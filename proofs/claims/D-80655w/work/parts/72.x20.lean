set_option maxRecDepth 100000 in
theorem k2_init_3 {l : Launch} {θ : zTh} {M N : zMap} (hT : zTb θ) (a : Nat) (x : Int) (y : Int) (r_x : inR x) (r_y : inR y) (hM : M a = some (.inr (3, [.int (iI (0)), .int (iI (0)), .null, .int (iI (0)), .null, .int (iI (0)), .null, .null]))) : ZM θ l yX2_init cX2_init 3 none ⟨1, 3, 123, 40⟩ [.ref (a), .int (iI (x)), .int (iI (y))] (zP θ M N) (fun v9 Q9 => v9 = none ∧ ∃ M' : zMap, ∃ fa : Nat, ∃ ab : Nat, ∃ hb : Nat, Q9 = zP θ M' N ∧ zFx a M M' ∧ M' a = some (.inr (3, [.int (iI (x)), .int (iI (y)), .ref (fa), .int (iI (0)), .ref (ab), .int (iI (0)), .ref (hb), .null])) ∧ M' fa = some (.inl (θ.2.1 8, 3, xQ (fun _ => none))) ∧ M fa = none ∧ fa ≠ a ∧ M' ab = some (.inl (θ.2.1 8, 60, xQ (fun _ => none))) ∧ M ab = none ∧ ab ≠ a ∧ M' hb = some (metE θ (fun _ => false)) ∧ M hb = none ∧ hb ≠ a ∧ fa ≠ ab ∧ fa ≠ hb ∧ ab ≠ hb) := by
  refine z_start (own := RX2) (nm := "<init>") pnX2 rfl rfl (Nat.le_of_ble_eq_true rfl) ?_
  intro κ hκ hκl C
  change Z κ (zP θ M N) 0 0 0 [(0, .ref (a)), (1, .int (iI (x))), (2, .int (iI (y)))] []
  have fx0 : zFx a M M := zFx.rf
  refine z_aload_n C 1 0 dX2_init_0 rfl rfl ?_
  refine z_objInit C 4 dX2_init_1 q173 q145 q146 (Nat.le_of_ble_eq_true rfl) (Nat.le_of_ble_eq_true rfl) rfl ?_
  refine z_aload_n C 5 0 dX2_init_4 rfl rfl ?_
  refine z_iconst C 6 dX2_init_5 rfl ?_
  refine z_anew C hκ hT 9 3 8 rfl (by decide) (by decide) q174 q148 (Nat.le_of_ble_eq_true rfl) (Nat.le_of_ble_eq_true rfl) dX2_init_6 rfl (fun a1 a1M a1N => ?_)
  refine z_widen (n' := 1) (k' := 3) (Nat.le_refl _) (Nat.le_refl _) ?_
  have ne2 : a ≠ a1 := fun z9 => by have z8 := hM; rw [z9, a1M] at z8; cases z8
  have no3 : M a1 = none := fx0.no a1M (fun z9 => ne2 z9.symm)
  obtain ⟨M1, eM1⟩ : ∃ z9 : zMap, zup M a1 (.inl (θ.2.1 8, 3, xQ (fun _ => none)) : va_E) = z9 := ⟨_, rfl⟩
  rw [eM1]
  have o4 : M1 a = some (.inr (3, [.int (iI (0)), .int (iI (0)), .null, .int (iI (0)), .null, .int (iI (0)), .null, .null])) := eM1 ▸ (zup_n ne2).trans hM
  have fx5 : zFx a M M1 := eM1 ▸ fx0.up (Or.inl no3)
  have o6 : M1 a1 = some (.inl (θ.2.1 8, 3, xQ (fun _ => none))) := eM1 ▸ zup_s
  refine z_putF (fs' := [.int (iI (0)), .int (iI (0)), .ref (a1), .int (iI (0)), .null, .int (iI (0)), .null, .null]) C hκ 12 2 zk_X3 o4 (by decide) q180 (Or.inl rfl) rfl rfl rfl rfl (Nat.le_of_ble_eq_true rfl) rfl dX2_init_9 rfl ?_
  obtain ⟨M2, eM2⟩ : ∃ z9 : zMap, zup M1 a (.inr (3, [.int (iI (0)), .int (iI (0)), .ref (a1), .int (iI (0)), .null, .int (iI (0)), .null, .null]) : va_E) = z9 := ⟨_, rfl⟩
  rw [eM2]
  have o7 : M2 a1 = some (.inl (θ.2.1 8, 3, xQ (fun _ => none))) := eM2 ▸ (zup_n (fun z9 => ne2 z9.symm)).trans o6
  have fx8 : zFx a M M2 := eM2 ▸ fx5.up (Or.inr rfl)
  have o9 : M2 a = some (.inr (3, [.int (iI (0)), .int (iI (0)), .ref (a1), .int (iI (0)), .null, .int (iI (0)), .null, .null])) := eM2 ▸ zup_s
  refine z_aload_n C 13 0 dX2_init_12 rfl rfl ?_
  refine z_bipush C 15 dX2_init_13 (by decide) rfl ?_
  refine z_anew C hκ hT 18 60 8 rfl (by decide) (by decide) q174 q148 (Nat.le_of_ble_eq_true rfl) (Nat.le_of_ble_eq_true rfl) dX2_init_15 rfl (fun a10 a10M a10N => ?_)
  refine z_widen (n' := 2) (k' := 63) (Nat.le_refl _) (Nat.le_refl _) ?_
  have ne11 : a ≠ a10 := fun z9 => by have z8 := o9; rw [z9, a10M] at z8; cases z8
  have ne12 : a1 ≠ a10 := fun z9 => by have z8 := o7; rw [z9, a10M] at z8; cases z8
  have no13 : M a10 = none := fx8.no a10M (fun z9 => ne11 z9.symm)
  obtain ⟨M3, eM3⟩ : ∃ z9 : zMap, zup M2 a10 (.inl (θ.2.1 8, 60, xQ (fun _ => none)) : va_E) = z9 := ⟨_, rfl⟩
  rw [eM3]
  have o14 : M3 a = some (.inr (3, [.int (iI (0)), .int (iI (0)), .ref (a1), .int (iI (0)), .null, .int (iI (0)), .null, .null])) := eM3 ▸ (zup_n ne11).trans o9
  have o15 : M3 a1 = some (.inl (θ.2.1 8, 3, xQ (fun _ => none))) := eM3 ▸ (zup_n ne12).trans o7
  have fx16 : zFx a M M3 := eM3 ▸ fx8.up (Or.inl no13)
  have o17 : M3 a10 = some (.inl (θ.2.1 8, 60, xQ (fun _ => none))) := eM3 ▸ zup_s
  refine z_putF (fs' := [.int (iI (0)), .int (iI (0)), .ref (a1), .int (iI (0)), .ref (a10), .int (iI (0)), .null, .null]) C hκ 21 4 zk_X3 o14 (by decide) q193 (Or.inl rfl) rfl rfl rfl rfl (Nat.le_of_ble_eq_true rfl) rfl dX2_init_18 rfl ?_
  obtain ⟨M4, eM4⟩ : ∃ z9 : zMap, zup M3 a (.inr (3, [.int (iI (0)), .int (iI (0)), .ref (a1), .int (iI (0)), .ref (a10), .int (iI (0)), .null, .null]) : va_E) = z9 := ⟨_, rfl⟩
  rw [eM4]
  have o18 : M4 a1 = some (.inl (θ.2.1 8, 3, xQ (fun _ => none))) := eM4 ▸ (zup_n (fun z9 => ne2 z9.symm)).trans o15
  have o19 : M4 a10 = some (.inl (θ.2.1 8, 60, xQ (fun _ => none))) := eM4 ▸ (zup_n (fun z9 => ne11 z9.symm)).trans o17
  have fx20 : zFx a M M4 := eM4 ▸ fx16.up (Or.inr rfl)
  have o21 : M4 a = some (.inr (3, [.int (iI (0)), .int (iI (0)), .ref (a1), .int (iI (0)), .ref (a10), .int (iI (0)), .null, .null])) := eM4 ▸ zup_s
  refine z_aload_n C 22 0 dX2_init_21 rfl rfl ?_
  refine z_bipush C 24 dX2_init_22 (by decide) rfl ?_
  refine z_newa_z (f := (fun j : Nat => iI (bI ((fun _ => false : Int → Bool) (j : Int))))) C hκ 26 60 (by decide) (by decide) (fun _ => rfl) q216 (Nat.le_of_ble_eq_true rfl) (Nat.le_of_ble_eq_true rfl) dX2_init_24 rfl (fun a22 a22M a22N => ?_)
  refine z_widen (n' := 3) (k' := 123) (Nat.le_refl _) (Nat.le_refl _) ?_
  have ne23 : a ≠ a22 := fun z9 => by have z8 := o21; rw [z9, a22M] at z8; cases z8
  have ne24 : a1 ≠ a22 := fun z9 => by have z8 := o18; rw [z9, a22M] at z8; cases z8
  have ne25 : a10 ≠ a22 := fun z9 => by have z8 := o19; rw [z9, a22M] at z8; cases z8
  have no26 : M a22 = none := fx20.no a22M (fun z9 => ne23 z9.symm)
  obtain ⟨M5, eM5⟩ : ∃ z9 : zMap, zup M4 a22 (.inl (θ.2.1 0, 60, .inl (fun j : Nat => iI (bI ((fun _ => false : Int → Bool) (j : Int))))) : va_E) = z9 := ⟨_, rfl⟩
  rw [eM5]
  have o27 : M5 a = some (.inr (3, [.int (iI (0)), .int (iI (0)), .ref (a1), .int (iI (0)), .ref (a10), .int (iI (0)), .null, .null])) := eM5 ▸ (zup_n ne23).trans o21
  have o28 : M5 a1 = some (.inl (θ.2.1 8, 3, xQ (fun _ => none))) := eM5 ▸ (zup_n ne24).trans o18
  have o29 : M5 a10 = some (.inl (θ.2.1 8, 60, xQ (fun _ => none))) := eM5 ▸ (zup_n ne25).trans o19
  have fx30 : zFx a M M5 := eM5 ▸ fx20.up (Or.inl no26)
  have o31 : M5 a22 = some (.inl (θ.2.1 0, 60, .inl (fun j : Nat => iI (bI ((fun _ => false : Int → Bool) (j : Int)))))) := eM5 ▸ zup_s
  refine z_putF (fs' := [.int (iI (0)), .int (iI (0)), .ref (a1), .int (iI (0)), .ref (a10), .int (iI (0)), .ref (a22), .null]) C hκ 29 6 zk_X3 o27 (by decide) q197 (Or.inl rfl) rfl rfl rfl rfl (Nat.le_of_ble_eq_true rfl) rfl dX2_init_26 rfl ?_
  obtain ⟨M6, eM6⟩ : ∃ z9 : zMap, zup M5 a (.inr (3, [.int (iI (0)), .int (iI (0)), .ref (a1), .int (iI (0)), .ref (a10), .int (iI (0)), .ref (a22), .null]) : va_E) = z9 := ⟨_, rfl⟩
  rw [eM6]
  have o32 : M6 a1 = some (.inl (θ.2.1 8, 3, xQ (fun _ => none))) := eM6 ▸ (zup_n (fun z9 => ne2 z9.symm)).trans o28
  have o33 : M6 a10 = some (.inl (θ.2.1 8, 60, xQ (fun _ => none))) := eM6 ▸ (zup_n (fun z9 => ne11 z9.symm)).trans o29
  have o34 : M6 a22 = some (.inl (θ.2.1 0, 60, .inl (fun j : Nat => iI (bI ((fun _ => false : Int → Bool) (j : Int)))))) := eM6 ▸ (zup_n (fun z9 => ne23 z9.symm)).trans o31
  have fx35 : zFx a M M6 := eM6 ▸ fx30.up (Or.inr rfl)
  have o36 : M6 a = some (.inr (3, [.int (iI (0)), .int (iI (0)), .ref (a1), .int (iI (0)), .ref (a10), .int (iI (0)), .ref (a22), .null])) := eM6 ▸ zup_s
  refine z_aload_n C 30 0 dX2_init_29 rfl rfl ?_
  refine z_iload_n C 31 1 dX2_init_30 rfl rfl ?_
  refine z_putF (fs' := [.int (iI (x)), .int (iI (0)), .ref (a1), .int (iI (0)), .ref (a10), .int (iI (0)), .ref (a22), .null]) C hκ 34 0 zk_X3 o36 (by decide) q175 (Or.inl rfl) rfl rfl rfl rfl (Nat.le_of_ble_eq_true rfl) rfl dX2_init_31 rfl ?_
  obtain ⟨M7, eM7⟩ : ∃ z9 : zMap, zup M6 a (.inr (3, [.int (iI (x)), .int (iI (0)), .ref (a1), .int (iI (0)), .ref (a10), .int (iI (0)), .ref (a22), .null]) : va_E) = z9 := ⟨_, rfl⟩
  rw [eM7]
  have o37 : M7 a1 = some (.inl (θ.2.1 8, 3, xQ (fun _ => none))) := eM7 ▸ (zup_n (fun z9 => ne2 z9.symm)).trans o32
  have o38 : M7 a10 = some (.inl (θ.2.1 8, 60, xQ (fun _ => none))) := eM7 ▸ (zup_n (fun z9 => ne11 z9.symm)).trans o33
  have o39 : M7 a22 = some (.inl (θ.2.1 0, 60, .inl (fun j : Nat => iI (bI ((fun _ => false : Int → Bool) (j : Int)))))) := eM7 ▸ (zup_n (fun z9 => ne23 z9.symm)).trans o34
  have fx40 : zFx a M M7 := eM7 ▸ fx35.up (Or.inr rfl)
  have o41 : M7 a = some (.inr (3, [.int (iI (x)), .int (iI (0)), .ref (a1), .int (iI (0)), .ref (a10), .int (iI (0)), .ref (a22), .null])) := eM7 ▸ zup_s
  refine z_aload_n C 35 0 dX2_init_34 rfl rfl ?_
  refine z_iload_n C 36 2 dX2_init_35 rfl rfl ?_
  refine z_putF (fs' := [.int (iI (x)), .int (iI (y)), .ref (a1), .int (iI (0)), .ref (a10), .int (iI (0)), .ref (a22), .null]) C hκ 39 1 zk_X3 o41 (by decide) q177 (Or.inl rfl) rfl rfl rfl rfl (Nat.le_of_ble_eq_true rfl) rfl dX2_init_36 rfl ?_
  obtain ⟨M8, eM8⟩ : ∃ z9 : zMap, zup M7 a (.inr (3, [.int (iI (x)), .int (iI (y)), .ref (a1), .int (iI (0)), .ref (a10), .int (iI (0)), .ref (a22), .null]) : va_E) = z9 := ⟨_, rfl⟩
  rw [eM8]
  have o42 : M8 a1 = some (.inl (θ.2.1 8, 3, xQ (fun _ => none))) := eM8 ▸ (zup_n (fun z9 => ne2 z9.symm)).trans o37
  have o43 : M8 a10 = some (.inl (θ.2.1 8, 60, xQ (fun _ => none))) := eM8 ▸ (zup_n (fun z9 => ne11 z9.symm)).trans o38
  have o44 : M8 a22 = some (.inl (θ.2.1 0, 60, .inl (fun j : Nat => iI (bI ((fun _ => false : Int → Bool) (j : Int)))))) := eM8 ▸ (zup_n (fun z9 => ne23 z9.symm)).trans o39
  have fx45 : zFx a M M8 := eM8 ▸ fx40.up (Or.inr rfl)
  have o46 : M8 a = some (.inr (3, [.int (iI (x)), .int (iI (y)), .ref (a1), .int (iI (0)), .ref (a10), .int (iI (0)), .ref (a22), .null])) := eM8 ▸ zup_s
  exact z_vret C dX2_init_39 (Nat.le_of_ble_eq_true rfl) (Nat.le_of_ble_eq_true rfl) ⟨rfl, M8, a1, a10, a22, rfl, fx45, o46, o42, no3, (fun z9 => ne2 z9.symm), o43, no13, (fun z9 => ne11 z9.symm), o44, no26, (fun z9 => ne23 z9.symm), ne12, ne24, ne25⟩
set_option maxRecDepth 100000 in
theorem k2_init_4 {l : Launch} {θ : zTh} {M N : zMap} (hT : zTb θ) (a : Nat) (x : Int) (y : Int) (r_x : inR x) (r_y : inR y) (hM : M a = some (.inr (4, [.int (iI (0)), .int (iI (0)), .null, .int (iI (0)), .null, .int (iI (0)), .null, .null]))) : ZM θ l yX2_init cX2_init 3 none ⟨1, 3, 123, 40⟩ [.ref (a), .int (iI (x)), .int (iI (y))] (zP θ M N) (fun v9 Q9 => v9 = none ∧ ∃ M' : zMap, ∃ fa : Nat, ∃ ab : Nat, ∃ hb : Nat, Q9 = zP θ M' N ∧ zFx a M M' ∧ M' a = some (.inr (4, [.int (iI (x)), .int (iI (y)), .ref (fa), .int (iI (0)), .ref (ab), .int (iI (0)), .ref (hb), .null])) ∧ M' fa = some (.inl (θ.2.1 8, 3, xQ (fun _ => none))) ∧ M fa = none ∧ fa ≠ a ∧ M' ab = some (.inl (θ.2.1 8, 60, xQ (fun _ => none))) ∧ M ab = none ∧ ab ≠ a ∧ M' hb = some (metE θ (fun _ => false)) ∧ M hb = none ∧ hb ≠ a ∧ fa ≠ ab ∧ fa ≠ hb ∧ ab ≠ hb) := by
  refine z_start (own := RX2) (nm := "<init>") pnX2 rfl rfl (Nat.le_of_ble_eq_true rfl) ?_
  intro κ hκ hκl C
  change Z κ (zP θ M N) 0 0 0 [(0, .ref (a)), (1, .int (iI (x))), (2, .int (iI (y)))] []
  have fx0 : zFx a M M := zFx.rf
  refine z_aload_n C 1 0 dX2_init_0 rfl rfl ?_
  refine z_objInit C 4 dX2_init_1 q173 q145 q146 (Nat.le_of_ble_eq_true rfl) (Nat.le_of_ble_eq_true rfl) rfl ?_
  refine z_aload_n C 5 0 dX2_init_4 rfl rfl ?_
  refine z_iconst C 6 dX2_init_5 rfl ?_
  refine z_anew C hκ hT 9 3 8 rfl (by decide) (by decide) q174 q148 (Nat.le_of_ble_eq_true rfl) (Nat.le_of_ble_eq_true rfl) dX2_init_6 rfl (fun a1 a1M a1N => ?_)
  refine z_widen (n' := 1) (k' := 3) (Nat.le_refl _) (Nat.le_refl _) ?_
  have ne2 : a ≠ a1 := fun z9 => by have z8 := hM; rw [z9, a1M] at z8; cases z8
  have no3 : M a1 = none := fx0.no a1M (fun z9 => ne2 z9.symm)
  obtain ⟨M1, eM1⟩ : ∃ z9 : zMap, zup M a1 (.inl (θ.2.1 8, 3, xQ (fun _ => none)) : va_E) = z9 := ⟨_, rfl⟩
  rw [eM1]
  have o4 : M1 a = some (.inr (4, [.int (iI (0)), .int (iI (0)), .null, .int (iI (0)), .null, .int (iI (0)), .null, .null])) := eM1 ▸ (zup_n ne2).trans hM
  have fx5 : zFx a M M1 := eM1 ▸ fx0.up (Or.inl no3)
  have o6 : M1 a1 = some (.inl (θ.2.1 8, 3, xQ (fun _ => none))) := eM1 ▸ zup_s
  refine z_putF (fs' := [.int (iI (0)), .int (iI (0)), .ref (a1), .int (iI (0)), .null, .int (iI (0)), .null, .null]) C hκ 12 2 zk_X4 o4 (by decide) q180 (Or.inl rfl) rfl rfl rfl rfl (Nat.le_of_ble_eq_true rfl) rfl dX2_init_9 rfl ?_
  obtain ⟨M2, eM2⟩ : ∃ z9 : zMap, zup M1 a (.inr (4, [.int (iI (0)), .int (iI (0)), .ref (a1), .int (iI (0)), .null, .int (iI (0)), .null, .null]) : va_E) = z9 := ⟨_, rfl⟩
  rw [eM2]
  have o7 : M2 a1 = some (.inl (θ.2.1 8, 3, xQ (fun _ => none))) := eM2 ▸ (zup_n (fun z9 => ne2 z9.symm)).trans o6
  have fx8 : zFx a M M2 := eM2 ▸ fx5.up (Or.inr rfl)
  have o9 : M2 a = some (.inr (4, [.int (iI (0)), .int (iI (0)), .ref (a1), .int (iI (0)), .null, .int (iI (0)), .null, .null])) := eM2 ▸ zup_s
  refine z_aload_n C 13 0 dX2_init_12 rfl rfl ?_
  refine z_bipush C 15 dX2_init_13 (by decide) rfl ?_
  refine z_anew C hκ hT 18 60 8 rfl (by decide) (by decide) q174 q148 (Nat.le_of_ble_eq_true rfl) (Nat.le_of_ble_eq_true rfl) dX2_init_15 rfl (fun a10 a10M a10N => ?_)
  refine z_widen (n' := 2) (k' := 63) (Nat.le_refl _) (Nat.le_refl _) ?_
  have ne11 : a ≠ a10 := fun z9 => by have z8 := o9; rw [z9, a10M] at z8; cases z8
  have ne12 : a1 ≠ a10 := fun z9 => by have z8 := o7; rw [z9, a10M] at z8; cases z8
  have no13 : M a10 = none := fx8.no a10M (fun z9 => ne11 z9.symm)
  obtain ⟨M3, eM3⟩ : ∃ z9 : zMap, zup M2 a10 (.inl (θ.2.1 8, 60, xQ (fun _ => none)) : va_E) = z9 := ⟨_, rfl⟩
  rw [eM3]
  have o14 : M3 a = some (.inr (4, [.int (iI (0)), .int (iI (0)), .ref (a1), .int (iI (0)), .null, .int (iI (0)), .null, .null])) := eM3 ▸ (zup_n ne11).trans o9
  have o15 : M3 a1 = some (.inl (θ.2.1 8, 3, xQ (fun _ => none))) := eM3 ▸ (zup_n ne12).trans o7
  have fx16 : zFx a M M3 := eM3 ▸ fx8.up (Or.inl no13)
  have o17 : M3 a10 = some (.inl (θ.2.1 8, 60, xQ (fun _ => none))) := eM3 ▸ zup_s
  refine z_putF (fs' := [.int (iI (0)), .int (iI (0)), .ref (a1), .int (iI (0)), .ref (a10), .int (iI (0)), .null, .null]) C hκ 21 4 zk_X4 o14 (by decide) q193 (Or.inl rfl) rfl rfl rfl rfl (Nat.le_of_ble_eq_true rfl) rfl dX2_init_18 rfl ?_
  obtain ⟨M4, eM4⟩ : ∃ z9 : zMap, zup M3 a (.inr (4, [.int (iI (0)), .int (iI (0)), .ref (a1), .int (iI (0)), .ref (a10), .int (iI (0)), .null, .null]) : va_E) = z9 := ⟨_, rfl⟩
  rw [eM4]
  have o18 : M4 a1 = some (.inl (θ.2.1 8, 3, xQ (fun _ => none))) := eM4 ▸ (zup_n (fun z9 => ne2 z9.symm)).trans o15
  have o19 : M4 a10 = some (.inl (θ.2.1 8, 60, xQ (fun _ => none))) := eM4 ▸ (zup_n (fun z9 => ne11 z9.symm)).trans o17
  have fx20 : zFx a M M4 := eM4 ▸ fx16.up (Or.inr rfl)
  have o21 : M4 a = some (.inr (4, [.int (iI (0)), .int (iI (0)), .ref (a1), .int (iI (0)), .ref (a10), .int (iI (0)), .null, .null])) := eM4 ▸ zup_s
  refine z_aload_n C 22 0 dX2_init_21 rfl rfl ?_
  refine z_bipush C 24 dX2_init_22 (by decide) rfl ?_
  refine z_newa_z (f := (fun j : Nat => iI (bI ((fun _ => false : Int → Bool) (j : Int))))) C hκ 26 60 (by decide) (by decide) (fun _ => rfl) q216 (Nat.le_of_ble_eq_true rfl) (Nat.le_of_ble_eq_true rfl) dX2_init_24 rfl (fun a22 a22M a22N => ?_)
  refine z_widen (n' := 3) (k' := 123) (Nat.le_refl _) (Nat.le_refl _) ?_
  have ne23 : a ≠ a22 := fun z9 => by have z8 := o21; rw [z9, a22M] at z8; cases z8
  have ne24 : a1 ≠ a22 := fun z9 => by have z8 := o18; rw [z9, a22M] at z8; cases z8
  have ne25 : a10 ≠ a22 := fun z9 => by have z8 := o19; rw [z9, a22M] at z8; cases z8
  have no26 : M a22 = none := fx20.no a22M (fun z9 => ne23 z9.symm)
  obtain ⟨M5, eM5⟩ : ∃ z9 : zMap, zup M4 a22 (.inl (θ.2.1 0, 60, .inl (fun j : Nat => iI (bI ((fun _ => false : Int → Bool) (j : Int))))) : va_E) = z9 := ⟨_, rfl⟩
  rw [eM5]
  have o27 : M5 a = some (.inr (4, [.int (iI (0)), .int (iI (0)), .ref (a1), .int (iI (0)), .ref (a10), .int (iI (0)), .null, .null])) := eM5 ▸ (zup_n ne23).trans o21
  have o28 : M5 a1 = some (.inl (θ.2.1 8, 3, xQ (fun _ => none))) := eM5 ▸ (zup_n ne24).trans o18
  have o29 : M5 a10 = some (.inl (θ.2.1 8, 60, xQ (fun _ => none))) := eM5 ▸ (zup_n ne25).trans o19
  have fx30 : zFx a M M5 := eM5 ▸ fx20.up (Or.inl no26)
  have o31 : M5 a22 = some (.inl (θ.2.1 0, 60, .inl (fun j : Nat => iI (bI ((fun _ => false : Int → Bool) (j : Int)))))) := eM5 ▸ zup_s
  refine z_putF (fs' := [.int (iI (0)), .int (iI (0)), .ref (a1), .int (iI (0)), .ref (a10), .int (iI (0)), .ref (a22), .null]) C hκ 29 6 zk_X4 o27 (by decide) q197 (Or.inl rfl) rfl rfl rfl rfl (Nat.le_of_ble_eq_true rfl) rfl dX2_init_26 rfl ?_
  obtain ⟨M6, eM6⟩ : ∃ z9 : zMap, zup M5 a (.inr (4, [.int (iI (0)), .int (iI (0)), .ref (a1), .int (iI (0)), .ref (a10), .int (iI (0)), .ref (a22), .null]) : va_E) = z9 := ⟨_, rfl⟩
  rw [eM6]
  have o32 : M6 a1 = some (.inl (θ.2.1 8, 3, xQ (fun _ => none))) := eM6 ▸ (zup_n (fun z9 => ne2 z9.symm)).trans o28
  have o33 : M6 a10 = some (.inl (θ.2.1 8, 60, xQ (fun _ => none))) := eM6 ▸ (zup_n (fun z9 => ne11 z9.symm)).trans o29
  have o34 : M6 a22 = some (.inl (θ.2.1 0, 60, .inl (fun j : Nat => iI (bI ((fun _ => false : Int → Bool) (j : Int)))))) := eM6 ▸ (zup_n (fun z9 => ne23 z9.symm)).trans o31
  have fx35 : zFx a M M6 := eM6 ▸ fx30.up (Or.inr rfl)
  have o36 : M6 a = some (.inr (4, [.int (iI (0)), .int (iI (0)), .ref (a1), .int (iI (0)), .ref (a10), .int (iI (0)), .ref (a22), .null])) := eM6 ▸ zup_s
  refine z_aload_n C 30 0 dX2_init_29 rfl rfl ?_
  refine z_iload_n C 31 1 dX2_init_30 rfl rfl ?_
  refine z_putF (fs' := [.int (iI (x)), .int (iI (0)), .ref (a1), .int (iI (0)), .ref (a10), .int (iI (0)), .ref (a22), .null]) C hκ 34 0 zk_X4 o36 (by decide) q175 (Or.inl rfl) rfl rfl rfl rfl (Nat.le_of_ble_eq_true rfl) rfl dX2_init_31 rfl ?_
  obtain ⟨M7, eM7⟩ : ∃ z9 : zMap, zup M6 a (.inr (4, [.int (iI (x)), .int (iI (0)), .ref (a1), .int (iI (0)), .ref (a10), .int (iI (0)), .ref (a22), .null]) : va_E) = z9 := ⟨_, rfl⟩
  rw [eM7]
  have o37 : M7 a1 = some (.inl (θ.2.1 8, 3, xQ (fun _ => none))) := eM7 ▸ (zup_n (fun z9 => ne2 z9.symm)).trans o32
  have o38 : M7 a10 = some (.inl (θ.2.1 8, 60, xQ (fun _ => none))) := eM7 ▸ (zup_n (fun z9 => ne11 z9.symm)).trans o33
  have o39 : M7 a22 = some (.inl (θ.2.1 0, 60, .inl (fun j : Nat => iI (bI ((fun _ => false : Int → Bool) (j : Int)))))) := eM7 ▸ (zup_n (fun z9 => ne23 z9.symm)).trans o34
  have fx40 : zFx a M M7 := eM7 ▸ fx35.up (Or.inr rfl)
  have o41 : M7 a = some (.inr (4, [.int (iI (x)), .int (iI (0)), .ref (a1), .int (iI (0)), .ref (a10), .int (iI (0)), .ref (a22), .null])) := eM7 ▸ zup_s
  refine z_aload_n C 35 0 dX2_init_34 rfl rfl ?_
  refine z_iload_n C 36 2 dX2_init_35 rfl rfl ?_
  refine z_putF (fs' := [.int (iI (x)), .int (iI (y)), .ref (a1), .int (iI (0)), .ref (a10), .int (iI (0)), .ref (a22), .null]) C hκ 39 1 zk_X4 o41 (by decide) q177 (Or.inl rfl) rfl rfl rfl rfl (Nat.le_of_ble_eq_true rfl) rfl dX2_init_36 rfl ?_
  obtain ⟨M8, eM8⟩ : ∃ z9 : zMap, zup M7 a (.inr (4, [.int (iI (x)), .int (iI (y)), .ref (a1), .int (iI (0)), .ref (a10), .int (iI (0)), .ref (a22), .null]) : va_E) = z9 := ⟨_, rfl⟩
  rw [eM8]
  have o42 : M8 a1 = some (.inl (θ.2.1 8, 3, xQ (fun _ => none))) := eM8 ▸ (zup_n (fun z9 => ne2 z9.symm)).trans o37
  have o43 : M8 a10 = some (.inl (θ.2.1 8, 60, xQ (fun _ => none))) := eM8 ▸ (zup_n (fun z9 => ne11 z9.symm)).trans o38
  have o44 : M8 a22 = some (.inl (θ.2.1 0, 60, .inl (fun j : Nat => iI (bI ((fun _ => false : Int → Bool) (j : Int)))))) := eM8 ▸ (zup_n (fun z9 => ne23 z9.symm)).trans o39
  have fx45 : zFx a M M8 := eM8 ▸ fx40.up (Or.inr rfl)
  have o46 : M8 a = some (.inr (4, [.int (iI (x)), .int (iI (y)), .ref (a1), .int (iI (0)), .ref (a10), .int (iI (0)), .ref (a22), .null])) := eM8 ▸ zup_s
  exact z_vret C dX2_init_39 (Nat.le_of_ble_eq_true rfl) (Nat.le_of_ble_eq_true rfl) ⟨rfl, M8, a1, a10, a22, rfl, fx45, o46, o42, no3, (fun z9 => ne2 z9.symm), o43, no13, (fun z9 => ne11 z9.symm), o44, no26, (fun z9 => ne23 z9.symm), ne12, ne24, ne25⟩
set_option maxRecDepth 100000 in
theorem k2_init_5 {l : Launch} {θ : zTh} {M N : zMap} (hT : zTb θ) (a : Nat) (x : Int) (y : Int) (r_x : inR x) (r_y : inR y) (hM : M a = some (.inr (5, [.int (iI (0)), .int (iI (0)), .null, .int (iI (0)), .null, .int (iI (0)), .null, .null, .null, .int (iI (0))]))) : ZM θ l yX2_init cX2_init 3 none ⟨1, 3, 123, 40⟩ [.ref (a), .int (iI (x)), .int (iI (y))] (zP θ M N) (fun v9 Q9 => v9 = none ∧ ∃ M' : zMap, ∃ fa : Nat, ∃ ab : Nat, ∃ hb : Nat, Q9 = zP θ M' N ∧ zFx a M M' ∧ M' a = some (.inr (5, [.int (iI (x)), .int (iI (y)), .ref (fa), .int (iI (0)), .ref (ab), .int (iI (0)), .ref (hb), .null, .null, .int (iI (0))])) ∧ M' fa = some (.inl (θ.2.1 8, 3, xQ (fun _ => none))) ∧ M fa = none ∧ fa ≠ a ∧ M' ab = some (.inl (θ.2.1 8, 60, xQ (fun _ => none))) ∧ M ab = none ∧ ab ≠ a ∧ M' hb = some (metE θ (fun _ => false)) ∧ M hb = none ∧ hb ≠ a ∧ fa ≠ ab ∧ fa ≠ hb ∧ ab ≠ hb) := by
  refine z_start (own := RX2) (nm := "<init>") pnX2 rfl rfl (Nat.le_of_ble_eq_true rfl) ?_
  intro κ hκ hκl C
  change Z κ (zP θ M N) 0 0 0 [(0, .ref (a)), (1, .int (iI (x))), (2, .int (iI (y)))] []
  have fx0 : zFx a M M := zFx.rf
  refine z_aload_n C 1 0 dX2_init_0 rfl rfl ?_
  refine z_objInit C 4 dX2_init_1 q173 q145 q146 (Nat.le_of_ble_eq_true rfl) (Nat.le_of_ble_eq_true rfl) rfl ?_
  refine z_aload_n C 5 0 dX2_init_4 rfl rfl ?_
  refine z_iconst C 6 dX2_init_5 rfl ?_
  refine z_anew C hκ hT 9 3 8 rfl (by decide) (by decide) q174 q148 (Nat.le_of_ble_eq_true rfl) (Nat.le_of_ble_eq_true rfl) dX2_init_6 rfl (fun a1 a1M a1N => ?_)
  refine z_widen (n' := 1) (k' := 3) (Nat.le_refl _) (Nat.le_refl _) ?_
  have ne2 : a ≠ a1 := fun z9 => by have z8 := hM; rw [z9, a1M] at z8; cases z8
  have no3 : M a1 = none := fx0.no a1M (fun z9 => ne2 z9.symm)
  obtain ⟨M1, eM1⟩ : ∃ z9 : zMap, zup M a1 (.inl (θ.2.1 8, 3, xQ (fun _ => none)) : va_E) = z9 := ⟨_, rfl⟩
  rw [eM1]
  have o4 : M1 a = some (.inr (5, [.int (iI (0)), .int (iI (0)), .null, .int (iI (0)), .null, .int (iI (0)), .null, .null, .null, .int (iI (0))])) := eM1 ▸ (zup_n ne2).trans hM
  have fx5 : zFx a M M1 := eM1 ▸ fx0.up (Or.inl no3)
  have o6 : M1 a1 = some (.inl (θ.2.1 8, 3, xQ (fun _ => none))) := eM1 ▸ zup_s
  refine z_putF (fs' := [.int (iI (0)), .int (iI (0)), .ref (a1), .int (iI (0)), .null, .int (iI (0)), .null, .null, .null, .int (iI (0))]) C hκ 12 2 zk_X5 o4 (by decide) q180 (Or.inl rfl) rfl rfl rfl rfl (Nat.le_of_ble_eq_true rfl) rfl dX2_init_9 rfl ?_
  obtain ⟨M2, eM2⟩ : ∃ z9 : zMap, zup M1 a (.inr (5, [.int (iI (0)), .int (iI (0)), .ref (a1), .int (iI (0)), .null, .int (iI (0)), .null, .null, .null, .int (iI (0))]) : va_E) = z9 := ⟨_, rfl⟩
  rw [eM2]
  have o7 : M2 a1 = some (.inl (θ.2.1 8, 3, xQ (fun _ => none))) := eM2 ▸ (zup_n (fun z9 => ne2 z9.symm)).trans o6
  have fx8 : zFx a M M2 := eM2 ▸ fx5.up (Or.inr rfl)
  have o9 : M2 a = some (.inr (5, [.int (iI (0)), .int (iI (0)), .ref (a1), .int (iI (0)), .null, .int (iI (0)), .null, .null, .null, .int (iI (0))])) := eM2 ▸ zup_s
  refine z_aload_n C 13 0 dX2_init_12 rfl rfl ?_
  refine z_bipush C 15 dX2_init_13 (by decide) rfl ?_
  refine z_anew C hκ hT 18 60 8 rfl (by decide) (by decide) q174 q148 (Nat.le_of_ble_eq_true rfl) (Nat.le_of_ble_eq_true rfl) dX2_init_15 rfl (fun a10 a10M a10N => ?_)
  refine z_widen (n' := 2) (k' := 63) (Nat.le_refl _) (Nat.le_refl _) ?_
  have ne11 : a ≠ a10 := fun z9 => by have z8 := o9; rw [z9, a10M] at z8; cases z8
  have ne12 : a1 ≠ a10 := fun z9 => by have z8 := o7; rw [z9, a10M] at z8; cases z8
  have no13 : M a10 = none := fx8.no a10M (fun z9 => ne11 z9.symm)
  obtain ⟨M3, eM3⟩ : ∃ z9 : zMap, zup M2 a10 (.inl (θ.2.1 8, 60, xQ (fun _ => none)) : va_E) = z9 := ⟨_, rfl⟩
  rw [eM3]
  have o14 : M3 a = some (.inr (5, [.int (iI (0)), .int (iI (0)), .ref (a1), .int (iI (0)), .null, .int (iI (0)), .null, .null, .null, .int (iI (0))])) := eM3 ▸ (zup_n ne11).trans o9
  have o15 : M3 a1 = some (.inl (θ.2.1 8, 3, xQ (fun _ => none))) := eM3 ▸ (zup_n ne12).trans o7
  have fx16 : zFx a M M3 := eM3 ▸ fx8.up (Or.inl no13)
  have o17 : M3 a10 = some (.inl (θ.2.1 8, 60, xQ (fun _ => none))) := eM3 ▸ zup_s
  refine z_putF (fs' := [.int (iI (0)), .int (iI (0)), .ref (a1), .int (iI (0)), .ref (a10), .int (iI (0)), .null, .null, .null, .int (iI (0))]) C hκ 21 4 zk_X5 o14 (by decide) q193 (Or.inl rfl) rfl rfl rfl rfl (Nat.le_of_ble_eq_true rfl) rfl dX2_init_18 rfl ?_
  obtain ⟨M4, eM4⟩ : ∃ z9 : zMap, zup M3 a (.inr (5, [.int (iI (0)), .int (iI (0)), .ref (a1), .int (iI (0)), .ref (a10), .int (iI (0)), .null, .null, .null, .int (iI (0))]) : va_E) = z9 := ⟨_, rfl⟩
  rw [eM4]
  have o18 : M4 a1 = some (.inl (θ.2.1 8, 3, xQ (fun _ => none))) := eM4 ▸ (zup_n (fun z9 => ne2 z9.symm)).trans o15
  have o19 : M4 a10 = some (.inl (θ.2.1 8, 60, xQ (fun _ => none))) := eM4 ▸ (zup_n (fun z9 => ne11 z9.symm)).trans o17
  have fx20 : zFx a M M4 := eM4 ▸ fx16.up (Or.inr rfl)
  have o21 : M4 a = some (.inr (5, [.int (iI (0)), .int (iI (0)), .ref (a1), .int (iI (0)), .ref (a10), .int (iI (0)), .null, .null, .null, .int (iI (0))])) := eM4 ▸ zup_s
  refine z_aload_n C 22 0 dX2_init_21 rfl rfl ?_
  refine z_bipush C 24 dX2_init_22 (by decide) rfl ?_
  refine z_newa_z (f := (fun j : Nat => iI (bI ((fun _ => false : Int → Bool) (j : Int))))) C hκ 26 60 (by decide) (by decide) (fun _ => rfl) q216 (Nat.le_of_ble_eq_true rfl) (Nat.le_of_ble_eq_true rfl) dX2_init_24 rfl (fun a22 a22M a22N => ?_)
  refine z_widen (n' := 3) (k' := 123) (Nat.le_refl _) (Nat.le_refl _) ?_
  have ne23 : a ≠ a22 := fun z9 => by have z8 := o21; rw [z9, a22M] at z8; cases z8
  have ne24 : a1 ≠ a22 := fun z9 => by have z8 := o18; rw [z9, a22M] at z8; cases z8
  have ne25 : a10 ≠ a22 := fun z9 => by have z8 := o19; rw [z9, a22M] at z8; cases z8
  have no26 : M a22 = none := fx20.no a22M (fun z9 => ne23 z9.symm)
  obtain ⟨M5, eM5⟩ : ∃ z9 : zMap, zup M4 a22 (.inl (θ.2.1 0, 60, .inl (fun j : Nat => iI (bI ((fun _ => false : Int → Bool) (j : Int))))) : va_E) = z9 := ⟨_, rfl⟩
  rw [eM5]
  have o27 : M5 a = some (.inr (5, [.int (iI (0)), .int (iI (0)), .ref (a1), .int (iI (0)), .ref (a10), .int (iI (0)), .null, .null, .null, .int (iI (0))])) := eM5 ▸ (zup_n ne23).trans o21
  have o28 : M5 a1 = some (.inl (θ.2.1 8, 3, xQ (fun _ => none))) := eM5 ▸ (zup_n ne24).trans o18
  have o29 : M5 a10 = some (.inl (θ.2.1 8, 60, xQ (fun _ => none))) := eM5 ▸ (zup_n ne25).trans o19
  have fx30 : zFx a M M5 := eM5 ▸ fx20.up (Or.inl no26)
  have o31 : M5 a22 = some (.inl (θ.2.1 0, 60, .inl (fun j : Nat => iI (bI ((fun _ => false : Int → Bool) (j : Int)))))) := eM5 ▸ zup_s
  refine z_putF (fs' := [.int (iI (0)), .int (iI (0)), .ref (a1), .int (iI (0)), .ref (a10), .int (iI (0)), .ref (a22), .null, .null, .int (iI (0))]) C hκ 29 6 zk_X5 o27 (by decide) q197 (Or.inl rfl) rfl rfl rfl rfl (Nat.le_of_ble_eq_true rfl) rfl dX2_init_26 rfl ?_
  obtain ⟨M6, eM6⟩ : ∃ z9 : zMap, zup M5 a (.inr (5, [.int (iI (0)), .int (iI (0)), .ref (a1), .int (iI (0)), .ref (a10), .int (iI (0)), .ref (a22), .null, .null, .int (iI (0))]) : va_E) = z9 := ⟨_, rfl⟩
  rw [eM6]
  have o32 : M6 a1 = some (.inl (θ.2.1 8, 3, xQ (fun _ => none))) := eM6 ▸ (zup_n (fun z9 => ne2 z9.symm)).trans o28
  have o33 : M6 a10 = some (.inl (θ.2.1 8, 60, xQ (fun _ => none))) := eM6 ▸ (zup_n (fun z9 => ne11 z9.symm)).trans o29
  have o34 : M6 a22 = some (.inl (θ.2.1 0, 60, .inl (fun j : Nat => iI (bI ((fun _ => false : Int → Bool) (j : Int)))))) := eM6 ▸ (zup_n (fun z9 => ne23 z9.symm)).trans o31
  have fx35 : zFx a M M6 := eM6 ▸ fx30.up (Or.inr rfl)
  have o36 : M6 a = some (.inr (5, [.int (iI (0)), .int (iI (0)), .ref (a1), .int (iI (0)), .ref (a10), .int (iI (0)), .ref (a22), .null, .null, .int (iI (0))])) := eM6 ▸ zup_s
  refine z_aload_n C 30 0 dX2_init_29 rfl rfl ?_
  refine z_iload_n C 31 1 dX2_init_30 rfl rfl ?_
  refine z_putF (fs' := [.int (iI (x)), .int (iI (0)), .ref (a1), .int (iI (0)), .ref (a10), .int (iI (0)), .ref (a22), .null, .null, .int (iI (0))]) C hκ 34 0 zk_X5 o36 (by decide) q175 (Or.inl rfl) rfl rfl rfl rfl (Nat.le_of_ble_eq_true rfl) rfl dX2_init_31 rfl ?_
  obtain ⟨M7, eM7⟩ : ∃ z9 : zMap, zup M6 a (.inr (5, [.int (iI (x)), .int (iI (0)), .ref (a1), .int (iI (0)), .ref (a10), .int (iI (0)), .ref (a22), .null, .null, .int (iI (0))]) : va_E) = z9 := ⟨_, rfl⟩
  rw [eM7]
  have o37 : M7 a1 = some (.inl (θ.2.1 8, 3, xQ (fun _ => none))) := eM7 ▸ (zup_n (fun z9 => ne2 z9.symm)).trans o32
  have o38 : M7 a10 = some (.inl (θ.2.1 8, 60, xQ (fun _ => none))) := eM7 ▸ (zup_n (fun z9 => ne11 z9.symm)).trans o33
  have o39 : M7 a22 = some (.inl (θ.2.1 0, 60, .inl (fun j : Nat => iI (bI ((fun _ => false : Int → Bool) (j : Int)))))) := eM7 ▸ (zup_n (fun z9 => ne23 z9.symm)).trans o34
  have fx40 : zFx a M M7 := eM7 ▸ fx35.up (Or.inr rfl)
  have o41 : M7 a = some (.inr (5, [.int (iI (x)), .int (iI (0)), .ref (a1), .int (iI (0)), .ref (a10), .int (iI (0)), .ref (a22), .null, .null, .int (iI (0))])) := eM7 ▸ zup_s
  refine z_aload_n C 35 0 dX2_init_34 rfl rfl ?_
  refine z_iload_n C 36 2 dX2_init_35 rfl rfl ?_
  refine z_putF (fs' := [.int (iI (x)), .int (iI (y)), .ref (a1), .int (iI (0)), .ref (a10), .int (iI (0)), .ref (a22), .null, .null, .int (iI (0))]) C hκ 39 1 zk_X5 o41 (by decide) q177 (Or.inl rfl) rfl rfl rfl rfl (Nat.le_of_ble_eq_true rfl) rfl dX2_init_36 rfl ?_
  obtain ⟨M8, eM8⟩ : ∃ z9 : zMap, zup M7 a (.inr (5, [.int (iI (x)), .int (iI (y)), .ref (a1), .int (iI (0)), .ref (a10), .int (iI (0)), .ref (a22), .null, .null, .int (iI (0))]) : va_E) = z9 := ⟨_, rfl⟩
  rw [eM8]
  have o42 : M8 a1 = some (.inl (θ.2.1 8, 3, xQ (fun _ => none))) := eM8 ▸ (zup_n (fun z9 => ne2 z9.symm)).trans o37
  have o43 : M8 a10 = some (.inl (θ.2.1 8, 60, xQ (fun _ => none))) := eM8 ▸ (zup_n (fun z9 => ne11 z9.symm)).trans o38
  have o44 : M8 a22 = some (.inl (θ.2.1 0, 60, .inl (fun j : Nat => iI (bI ((fun _ => false : Int → Bool) (j : Int)))))) := eM8 ▸ (zup_n (fun z9 => ne23 z9.symm)).trans o39
  have fx45 : zFx a M M8 := eM8 ▸ fx40.up (Or.inr rfl)
  have o46 : M8 a = some (.inr (5, [.int (iI (x)), .int (iI (y)), .ref (a1), .int (iI (0)), .ref (a10), .int (iI (0)), .ref (a22), .null, .null, .int (iI (0))])) := eM8 ▸ zup_s
  exact z_vret C dX2_init_39 (Nat.le_of_ble_eq_true rfl) (Nat.le_of_ble_eq_true rfl) ⟨rfl, M8, a1, a10, a22, rfl, fx45, o46, o42, no3, (fun z9 => ne2 z9.symm), o43, no13, (fun z9 => ne11 z9.symm), o44, no26, (fun z9 => ne23 z9.symm), ne12, ne24, ne25⟩
set_option maxRecDepth 100000 in
theorem k2_init_8 {l : Launch} {θ : zTh} {M N : zMap} (hT : zTb θ) (a : Nat) (x : Int) (y : Int) (r_x : inR x) (r_y : inR y) (hM : M a = some (.inr (8, [.int (iI (0)), .int (iI (0)), .null, .int (iI (0)), .null, .int (iI (0)), .null, .null, .null, .null]))) : ZM θ l yX2_init cX2_init 3 none ⟨1, 3, 123, 40⟩ [.ref (a), .int (iI (x)), .int (iI (y))] (zP θ M N) (fun v9 Q9 => v9 = none ∧ ∃ M' : zMap, ∃ fa : Nat, ∃ ab : Nat, ∃ hb : Nat, Q9 = zP θ M' N ∧ zFx a M M' ∧ M' a = some (.inr (8, [.int (iI (x)), .int (iI (y)), .ref (fa), .int (iI (0)), .ref (ab), .int (iI (0)), .ref (hb), .null, .null, .null])) ∧ M' fa = some (.inl (θ.2.1 8, 3, xQ (fun _ => none))) ∧ M fa = none ∧ fa ≠ a ∧ M' ab = some (.inl (θ.2.1 8, 60, xQ (fun _ => none))) ∧ M ab = none ∧ ab ≠ a ∧ M' hb = some (metE θ (fun _ => false)) ∧ M hb = none ∧ hb ≠ a ∧ fa ≠ ab ∧ fa ≠ hb ∧ ab ≠ hb) := by
  refine z_start (own := RX2) (nm := "<init>") pnX2 rfl rfl (Nat.le_of_ble_eq_true rfl) ?_
  intro κ hκ hκl C
  change Z κ (zP θ M N) 0 0 0 [(0, .ref (a)), (1, .int (iI (x))), (2, .int (iI (y)))] []
  have fx0 : zFx a M M := zFx.rf
  refine z_aload_n C 1 0 dX2_init_0 rfl rfl ?_
  refine z_objInit C 4 dX2_init_1 q173 q145 q146 (Nat.le_of_ble_eq_true rfl) (Nat.le_of_ble_eq_true rfl) rfl ?_
  refine z_aload_n C 5 0 dX2_init_4 rfl rfl ?_
  refine z_iconst C 6 dX2_init_5 rfl ?_
  refine z_anew C hκ hT 9 3 8 rfl (by decide) (by decide) q174 q148 (Nat.le_of_ble_eq_true rfl) (Nat.le_of_ble_eq_true rfl) dX2_init_6 rfl (fun a1 a1M a1N => ?_)
  refine z_widen (n' := 1) (k' := 3) (Nat.le_refl _) (Nat.le_refl _) ?_
  have ne2 : a ≠ a1 := fun z9 => by have z8 := hM; rw [z9, a1M] at z8; cases z8
  have no3 : M a1 = none := fx0.no a1M (fun z9 => ne2 z9.symm)
  obtain ⟨M1, eM1⟩ : ∃ z9 : zMap, zup M a1 (.inl (θ.2.1 8, 3, xQ (fun _ => none)) : va_E) = z9 := ⟨_, rfl⟩
  rw [eM1]
  have o4 : M1 a = some (.inr (8, [.int (iI (0)), .int (iI (0)), .null, .int (iI (0)), .null, .int (iI (0)), .null, .null, .null, .null])) := eM1 ▸ (zup_n ne2).trans hM
  have fx5 : zFx a M M1 := eM1 ▸ fx0.up (Or.inl no3)
  have o6 : M1 a1 = some (.inl (θ.2.1 8, 3, xQ (fun _ => none))) := eM1 ▸ zup_s
  refine z_putF (fs' := [.int (iI (0)), .int (iI (0)), .ref (a1), .int (iI (0)), .null, .int (iI (0)), .null, .null, .null, .null]) C hκ 12 2 zk_X8 o4 (by decide) q180 (Or.inl rfl) rfl rfl rfl rfl (Nat.le_of_ble_eq_true rfl) rfl dX2_init_9 rfl ?_
  obtain ⟨M2, eM2⟩ : ∃ z9 : zMap, zup M1 a (.inr (8, [.int (iI (0)), .int (iI (0)), .ref (a1), .int (iI (0)), .null, .int (iI (0)), .null, .null, .null, .null]) : va_E) = z9 := ⟨_, rfl⟩
  rw [eM2]
  have o7 : M2 a1 = some (.inl (θ.2.1 8, 3, xQ (fun _ => none))) := eM2 ▸ (zup_n (fun z9 => ne2 z9.symm)).trans o6
  have fx8 : zFx a M M2 := eM2 ▸ fx5.up (Or.inr rfl)
  have o9 : M2 a = some (.inr (8, [.int (iI (0)), .int (iI (0)), .ref (a1), .int (iI (0)), .null, .int (iI (0)), .null, .null, .null, .null])) := eM2 ▸ zup_s
  refine z_aload_n C 13 0 dX2_init_12 rfl rfl ?_
  refine z_bipush C 15 dX2_init_13 (by decide) rfl ?_
  refine z_anew C hκ hT 18 60 8 rfl (by decide) (by decide) q174 q148 (Nat.le_of_ble_eq_true rfl) (Nat.le_of_ble_eq_true rfl) dX2_init_15 rfl (fun a10 a10M a10N => ?_)
  refine z_widen (n' := 2) (k' := 63) (Nat.le_refl _) (Nat.le_refl _) ?_
  have ne11 : a ≠ a10 := fun z9 => by have z8 := o9; rw [z9, a10M] at z8; cases z8
  have ne12 : a1 ≠ a10 := fun z9 => by have z8 := o7; rw [z9, a10M] at z8; cases z8
  have no13 : M a10 = none := fx8.no a10M (fun z9 => ne11 z9.symm)
  obtain ⟨M3, eM3⟩ : ∃ z9 : zMap, zup M2 a10 (.inl (θ.2.1 8, 60, xQ (fun _ => none)) : va_E) = z9 := ⟨_, rfl⟩
  rw [eM3]
  have o14 : M3 a = some (.inr (8, [.int (iI (0)), .int (iI (0)), .ref (a1), .int (iI (0)), .null, .int (iI (0)), .null, .null, .null, .null])) := eM3 ▸ (zup_n ne11).trans o9
  have o15 : M3 a1 = some (.inl (θ.2.1 8, 3, xQ (fun _ => none))) := eM3 ▸ (zup_n ne12).trans o7
  have fx16 : zFx a M M3 := eM3 ▸ fx8.up (Or.inl no13)
  have o17 : M3 a10 = some (.inl (θ.2.1 8, 60, xQ (fun _ => none))) := eM3 ▸ zup_s
  refine z_putF (fs' := [.int (iI (0)), .int (iI (0)), .ref (a1), .int (iI (0)), .ref (a10), .int (iI (0)), .null, .null, .null, .null]) C hκ 21 4 zk_X8 o14 (by decide) q193 (Or.inl rfl) rfl rfl rfl rfl (Nat.le_of_ble_eq_true rfl) rfl dX2_init_18 rfl ?_
  obtain ⟨M4, eM4⟩ : ∃ z9 : zMap, zup M3 a (.inr (8, [.int (iI (0)), .int (iI (0)), .ref (a1), .int (iI (0)), .ref (a10), .int (iI (0)), .null, .null, .null, .null]) : va_E) = z9 := ⟨_, rfl⟩
  rw [eM4]
  have o18 : M4 a1 = some (.inl (θ.2.1 8, 3, xQ (fun _ => none))) := eM4 ▸ (zup_n (fun z9 => ne2 z9.symm)).trans o15
  have o19 : M4 a10 = some (.inl (θ.2.1 8, 60, xQ (fun _ => none))) := eM4 ▸ (zup_n (fun z9 => ne11 z9.symm)).trans o17
  have fx20 : zFx a M M4 := eM4 ▸ fx16.up (Or.inr rfl)
  have o21 : M4 a = some (.inr (8, [.int (iI (0)), .int (iI (0)), .ref (a1), .int (iI (0)), .ref (a10), .int (iI (0)), .null, .null, .null, .null])) := eM4 ▸ zup_s
  refine z_aload_n C 22 0 dX2_init_21 rfl rfl ?_
  refine z_bipush C 24 dX2_init_22 (by decide) rfl ?_
  refine z_newa_z (f := (fun j : Nat => iI (bI ((fun _ => false : Int → Bool) (j : Int))))) C hκ 26 60 (by decide) (by decide) (fun _ => rfl) q216 (Nat.le_of_ble_eq_true rfl) (Nat.le_of_ble_eq_true rfl) dX2_init_24 rfl (fun a22 a22M a22N => ?_)
  refine z_widen (n' := 3) (k' := 123) (Nat.le_refl _) (Nat.le_refl _) ?_
  have ne23 : a ≠ a22 := fun z9 => by have z8 := o21; rw [z9, a22M] at z8; cases z8
  have ne24 : a1 ≠ a22 := fun z9 => by have z8 := o18; rw [z9, a22M] at z8; cases z8
  have ne25 : a10 ≠ a22 := fun z9 => by have z8 := o19; rw [z9, a22M] at z8; cases z8
  have no26 : M a22 = none := fx20.no a22M (fun z9 => ne23 z9.symm)
  obtain ⟨M5, eM5⟩ : ∃ z9 : zMap, zup M4 a22 (.inl (θ.2.1 0, 60, .inl (fun j : Nat => iI (bI ((fun _ => false : Int → Bool) (j : Int))))) : va_E) = z9 := ⟨_, rfl⟩
  rw [eM5]
  have o27 : M5 a = some (.inr (8, [.int (iI (0)), .int (iI (0)), .ref (a1), .int (iI (0)), .ref (a10), .int (iI (0)), .null, .null, .null, .null])) := eM5 ▸ (zup_n ne23).trans o21
  have o28 : M5 a1 = some (.inl (θ.2.1 8, 3, xQ (fun _ => none))) := eM5 ▸ (zup_n ne24).trans o18
  have o29 : M5 a10 = some (.inl (θ.2.1 8, 60, xQ (fun _ => none))) := eM5 ▸ (zup_n ne25).trans o19
  have fx30 : zFx a M M5 := eM5 ▸ fx20.up (Or.inl no26)
  have o31 : M5 a22 = some (.inl (θ.2.1 0, 60, .inl (fun j : Nat => iI (bI ((fun _ => false : Int → Bool) (j : Int)))))) := eM5 ▸ zup_s
  refine z_putF (fs' := [.int (iI (0)), .int (iI (0)), .ref (a1), .int (iI (0)), .ref (a10), .int (iI (0)), .ref (a22), .null, .null, .null]) C hκ 29 6 zk_X8 o27 (by decide) q197 (Or.inl rfl) rfl rfl rfl rfl (Nat.le_of_ble_eq_true rfl) rfl dX2_init_26 rfl ?_
  obtain ⟨M6, eM6⟩ : ∃ z9 : zMap, zup M5 a (.inr (8, [.int (iI (0)), .int (iI (0)), .ref (a1), .int (iI (0)), .ref (a10), .int (iI (0)), .ref (a22), .null, .null, .null]) : va_E) = z9 := ⟨_, rfl⟩
  rw [eM6]
  have o32 : M6 a1 = some (.inl (θ.2.1 8, 3, xQ (fun _ => none))) := eM6 ▸ (zup_n (fun z9 => ne2 z9.symm)).trans o28
  have o33 : M6 a10 = some (.inl (θ.2.1 8, 60, xQ (fun _ => none))) := eM6 ▸ (zup_n (fun z9 => ne11 z9.symm)).trans o29
  have o34 : M6 a22 = some (.inl (θ.2.1 0, 60, .inl (fun j : Nat => iI (bI ((fun _ => false : Int → Bool) (j : Int)))))) := eM6 ▸ (zup_n (fun z9 => ne23 z9.symm)).trans o31
  have fx35 : zFx a M M6 := eM6 ▸ fx30.up (Or.inr rfl)
  have o36 : M6 a = some (.inr (8, [.int (iI (0)), .int (iI (0)), .ref (a1), .int (iI (0)), .ref (a10), .int (iI (0)), .ref (a22), .null, .null, .null])) := eM6 ▸ zup_s
  refine z_aload_n C 30 0 dX2_init_29 rfl rfl ?_
  refine z_iload_n C 31 1 dX2_init_30 rfl rfl ?_
  refine z_putF (fs' := [.int (iI (x)), .int (iI (0)), .ref (a1), .int (iI (0)), .ref (a10), .int (iI (0)), .ref (a22), .null, .null, .null]) C hκ 34 0 zk_X8 o36 (by decide) q175 (Or.inl rfl) rfl rfl rfl rfl (Nat.le_of_ble_eq_true rfl) rfl dX2_init_31 rfl ?_
  obtain ⟨M7, eM7⟩ : ∃ z9 : zMap, zup M6 a (.inr (8, [.int (iI (x)), .int (iI (0)), .ref (a1), .int (iI (0)), .ref (a10), .int (iI (0)), .ref (a22), .null, .null, .null]) : va_E) = z9 := ⟨_, rfl⟩
  rw [eM7]
  have o37 : M7 a1 = some (.inl (θ.2.1 8, 3, xQ (fun _ => none))) := eM7 ▸ (zup_n (fun z9 => ne2 z9.symm)).trans o32
  have o38 : M7 a10 = some (.inl (θ.2.1 8, 60, xQ (fun _ => none))) := eM7 ▸ (zup_n (fun z9 => ne11 z9.symm)).trans o33
  have o39 : M7 a22 = some (.inl (θ.2.1 0, 60, .inl (fun j : Nat => iI (bI ((fun _ => false : Int → Bool) (j : Int)))))) := eM7 ▸ (zup_n (fun z9 => ne23 z9.symm)).trans o34
  have fx40 : zFx a M M7 := eM7 ▸ fx35.up (Or.inr rfl)
  have o41 : M7 a = some (.inr (8, [.int (iI (x)), .int (iI (0)), .ref (a1), .int (iI (0)), .ref (a10), .int (iI (0)), .ref (a22), .null, .null, .null])) := eM7 ▸ zup_s
  refine z_aload_n C 35 0 dX2_init_34 rfl rfl ?_
  refine z_iload_n C 36 2 dX2_init_35 rfl rfl ?_
  refine z_putF (fs' := [.int (iI (x)), .int (iI (y)), .ref (a1), .int (iI (0)), .ref (a10), .int (iI (0)), .ref (a22), .null, .null, .null]) C hκ 39 1 zk_X8 o41 (by decide) q177 (Or.inl rfl) rfl rfl rfl rfl (Nat.le_of_ble_eq_true rfl) rfl dX2_init_36 rfl ?_
  obtain ⟨M8, eM8⟩ : ∃ z9 : zMap, zup M7 a (.inr (8, [.int (iI (x)), .int (iI (y)), .ref (a1), .int (iI (0)), .ref (a10), .int (iI (0)), .ref (a22), .null, .null, .null]) : va_E) = z9 := ⟨_, rfl⟩
  rw [eM8]
  have o42 : M8 a1 = some (.inl (θ.2.1 8, 3, xQ (fun _ => none))) := eM8 ▸ (zup_n (fun z9 => ne2 z9.symm)).trans o37
  have o43 : M8 a10 = some (.inl (θ.2.1 8, 60, xQ (fun _ => none))) := eM8 ▸ (zup_n (fun z9 => ne11 z9.symm)).trans o38
  have o44 : M8 a22 = some (.inl (θ.2.1 0, 60, .inl (fun j : Nat => iI (bI ((fun _ => false : Int → Bool) (j : Int)))))) := eM8 ▸ (zup_n (fun z9 => ne23 z9.symm)).trans o39
  have fx45 : zFx a M M8 := eM8 ▸ fx40.up (Or.inr rfl)
  have o46 : M8 a = some (.inr (8, [.int (iI (x)), .int (iI (y)), .ref (a1), .int (iI (0)), .ref (a10), .int (iI (0)), .ref (a22), .null, .null, .null])) := eM8 ▸ zup_s
  exact z_vret C dX2_init_39 (Nat.le_of_ble_eq_true rfl) (Nat.le_of_ble_eq_true rfl) ⟨rfl, M8, a1, a10, a22, rfl, fx45, o46, o42, no3, (fun z9 => ne2 z9.symm), o43, no13, (fun z9 => ne11 z9.symm), o44, no26, (fun z9 => ne23 z9.symm), ne12, ne24, ne25⟩
set_option maxRecDepth 100000 in
theorem k3_init_3 {l : Launch} {θ : zTh} {M N : zMap} (hT : zTb θ) (a : Nat) (x : Int) (r_x : inR x) (hM : M a = some (.inr (3, [.int (iI (0)), .int (iI (0)), .null, .int (iI (0)), .null, .int (iI (0)), .null, .null]))) : ZM θ l yX3_init cX3_init 2 none ⟨2, 3, 123, 62⟩ [.ref (a), .int (iI (x))] (zP θ M N) (fun v9 Q9 => v9 = none ∧ ∃ M' : zMap, ∃ fa : Nat, ∃ ab : Nat, ∃ hb : Nat, Q9 = zP θ M' N ∧ zFx a M M' ∧ M' a = some (.inr (3, [.int (iI (x)), .int (iI (0)), .ref (fa), .int (iI (0)), .ref (ab), .int (iI (0)), .ref (hb), .null])) ∧ M' fa = some (.inl (θ.2.1 8, 3, xQ (fun _ => none))) ∧ M fa = none ∧ fa ≠ a ∧ M' ab = some (.inl (θ.2.1 8, 60, xQ (fun _ => none))) ∧ M ab = none ∧ ab ≠ a ∧ M' hb = some (metE θ (fun _ => false)) ∧ M hb = none ∧ hb ≠ a ∧ fa ≠ ab ∧ fa ≠ hb ∧ ab ≠ hb) := by
  refine z_start (own := RX3) (nm := "<init>") pnX3 rfl rfl (Nat.le_of_ble_eq_true rfl) ?_
  intro κ hκ hκl C
  change Z κ (zP θ M N) 0 0 0 [(0, .ref (a)), (1, .int (iI (x)))] []
  have fx0 : zFx a M M := zFx.rf
  refine z_aload_n C 1 0 dX3_init_0 rfl rfl ?_
  refine z_iload_n C 2 1 dX3_init_1 rfl rfl ?_
  refine z_iconst C 3 dX3_init_2 rfl ?_
  refine z_callI (As := [.int (iI (x)), .int (iI (0))]) (rest := []) C hκ hκl 6 (k2_init_3 hT (a) (x) (0) r_x ⟨by decide, by decide⟩ hM) dX3_init_3 q170 q171 q92 q172 znX2_init rfl (Nat.le_of_ble_eq_true rfl) (Nat.le_of_ble_eq_true rfl) (Nat.le_of_ble_eq_true rfl) (Nat.le_of_ble_eq_true rfl) rfl (Nat.le_of_ble_eq_true rfl) rfl (fun v9 Q9 h9 => ?_)
  obtain ⟨rfl, Mr1, far1, abr1, hbr1, rfl, fxr1, oar1, hfar1, gfar1, ifar1, habr1, gabr1, iabr1, hhbr1, ghbr1, ihbr1, nefar1abr1, nefar1hbr1, neabr1hbr1⟩ := h9
  have ne2 : a ≠ far1 := fun z9 => by have z8 := hM; rw [z9, gfar1] at z8; cases z8
  have ne3 : a ≠ abr1 := fun z9 => by have z8 := hM; rw [z9, gabr1] at z8; cases z8
  have ne4 : a ≠ hbr1 := fun z9 => by have z8 := hM; rw [z9, ghbr1] at z8; cases z8
  have fx5 : zFx a M Mr1 := fx0.fx fxr1 (Or.inr rfl)
  refine z_as (Pic' := zP θ Mr1 N) (st' := []) rfl rfl rfl ?_
  refine z_widen (n' := 3) (k' := 123) (Nat.le_refl _) (Nat.le_refl _) ?_
  exact z_vret C dX3_init_6 (Nat.le_of_ble_eq_true rfl) (Nat.le_of_ble_eq_true rfl) ⟨rfl, Mr1, far1, abr1, hbr1, rfl, fx5, oar1, hfar1, (fx0.no gfar1 ifar1), (fun z9 => ne2 z9.symm), habr1, (fx0.no gabr1 iabr1), (fun z9 => ne3 z9.symm), hhbr1, (fx0.no ghbr1 ihbr1), (fun z9 => ne4 z9.symm), nefar1abr1, nefar1hbr1, neabr1hbr1⟩
set_option maxRecDepth 100000 in
theorem k4_init_4 {l : Launch} {θ : zTh} {M N : zMap} (hT : zTb θ) (a : Nat) (x : Int) (y : Int) (r_x : inR x) (r_y : inR y) (hM : M a = some (.inr (4, [.int (iI (0)), .int (iI (0)), .null, .int (iI (0)), .null, .int (iI (0)), .null, .null]))) : ZM θ l yX4_init cX4_init 3 none ⟨2, 3, 123, 62⟩ [.ref (a), .int (iI (x)), .int (iI (y))] (zP θ M N) (fun v9 Q9 => v9 = none ∧ ∃ M' : zMap, ∃ fa : Nat, ∃ ab : Nat, ∃ hb : Nat, Q9 = zP θ M' N ∧ zFx a M M' ∧ M' a = some (.inr (4, [.int (iI (x)), .int (iI (y)), .ref (fa), .int (iI (0)), .ref (ab), .int (iI (0)), .ref (hb), .null])) ∧ M' fa = some (.inl (θ.2.1 8, 3, xQ (fun _ => none))) ∧ M fa = none ∧ fa ≠ a ∧ M' ab = some (.inl (θ.2.1 8, 60, xQ (fun _ => none))) ∧ M ab = none ∧ ab ≠ a ∧ M' hb = some (metE θ (fun _ => false)) ∧ M hb = none ∧ hb ≠ a ∧ fa ≠ ab ∧ fa ≠ hb ∧ ab ≠ hb) := by
  refine z_start (own := RX4) (nm := "<init>") pnX4 rfl rfl (Nat.le_of_ble_eq_true rfl) ?_
  intro κ hκ hκl C
  change Z κ (zP θ M N) 0 0 0 [(0, .ref (a)), (1, .int (iI (x))), (2, .int (iI (y)))] []
  have fx0 : zFx a M M := zFx.rf
  refine z_aload_n C 1 0 dX4_init_0 rfl rfl ?_
  refine z_iload_n C 2 1 dX4_init_1 rfl rfl ?_
  refine z_iload_n C 3 2 dX4_init_2 rfl rfl ?_
  refine z_callI (As := [.int (iI (x)), .int (iI (y))]) (rest := []) C hκ hκl 6 (k2_init_4 hT (a) (x) (y) r_x r_y hM) dX4_init_3 q225 q171 q92 q172 znX2_init rfl (Nat.le_of_ble_eq_true rfl) (Nat.le_of_ble_eq_true rfl) (Nat.le_of_ble_eq_true rfl) (Nat.le_of_ble_eq_true rfl) rfl (Nat.le_of_ble_eq_true rfl) rfl (fun v9 Q9 h9 => ?_)
  obtain ⟨rfl, Mr1, far1, abr1, hbr1, rfl, fxr1, oar1, hfar1, gfar1, ifar1, habr1, gabr1, iabr1, hhbr1, ghbr1, ihbr1, nefar1abr1, nefar1hbr1, neabr1hbr1⟩ := h9
  have ne2 : a ≠ far1 := fun z9 => by have z8 := hM; rw [z9, gfar1] at z8; cases z8
  have ne3 : a ≠ abr1 := fun z9 => by have z8 := hM; rw [z9, gabr1] at z8; cases z8
  have ne4 : a ≠ hbr1 := fun z9 => by have z8 := hM; rw [z9, ghbr1] at z8; cases z8
  have fx5 : zFx a M Mr1 := fx0.fx fxr1 (Or.inr rfl)
  refine z_as (Pic' := zP θ Mr1 N) (st' := []) rfl rfl rfl ?_
  refine z_widen (n' := 3) (k' := 123) (Nat.le_refl _) (Nat.le_refl _) ?_
  exact z_vret C dX4_init_6 (Nat.le_of_ble_eq_true rfl) (Nat.le_of_ble_eq_true rfl) ⟨rfl, Mr1, far1, abr1, hbr1, rfl, fx5, oar1, hfar1, (fx0.no gfar1 ifar1), (fun z9 => ne2 z9.symm), habr1, (fx0.no gabr1 iabr1), (fun z9 => ne3 z9.symm), hhbr1, (fx0.no ghbr1 ihbr1), (fun z9 => ne4 z9.symm), nefar1abr1, nefar1hbr1, neabr1hbr1⟩
set_option maxRecDepth 100000 in
theorem k4_init_5 {l : Launch} {θ : zTh} {M N : zMap} (hT : zTb θ) (a : Nat) (x : Int) (y : Int) (r_x : inR x) (r_y : inR y) (hM : M a = some (.inr (5, [.int (iI (0)), .int (iI (0)), .null, .int (iI (0)), .null, .int (iI (0)), .null, .null, .null, .int (iI (0))]))) : ZM θ l yX4_init cX4_init 3 none ⟨2, 3, 123, 62⟩ [.ref (a), .int (iI (x)), .int (iI (y))] (zP θ M N) (fun v9 Q9 => v9 = none ∧ ∃ M' : zMap, ∃ fa : Nat, ∃ ab : Nat, ∃ hb : Nat, Q9 = zP θ M' N ∧ zFx a M M' ∧ M' a = some (.inr (5, [.int (iI (x)), .int (iI (y)), .ref (fa), .int (iI (0)), .ref (ab), .int (iI (0)), .ref (hb), .null, .null, .int (iI (0))])) ∧ M' fa = some (.inl (θ.2.1 8, 3, xQ (fun _ => none))) ∧ M fa = none ∧ fa ≠ a ∧ M' ab = some (.inl (θ.2.1 8, 60, xQ (fun _ => none))) ∧ M ab = none ∧ ab ≠ a ∧ M' hb = some (metE θ (fun _ => false)) ∧ M hb = none ∧ hb ≠ a ∧ fa ≠ ab ∧ fa ≠ hb ∧ ab ≠ hb) := by
  refine z_start (own := RX4) (nm := "<init>") pnX4 rfl rfl (Nat.le_of_ble_eq_true rfl) ?_
  intro κ hκ hκl C
  change Z κ (zP θ M N) 0 0 0 [(0, .ref (a)), (1, .int (iI (x))), (2, .int (iI (y)))] []
  have fx0 : zFx a M M := zFx.rf
  refine z_aload_n C 1 0 dX4_init_0 rfl rfl ?_
  refine z_iload_n C 2 1 dX4_init_1 rfl rfl ?_
  refine z_iload_n C 3 2 dX4_init_2 rfl rfl ?_
  refine z_callI (As := [.int (iI (x)), .int (iI (y))]) (rest := []) C hκ hκl 6 (k2_init_5 hT (a) (x) (y) r_x r_y hM) dX4_init_3 q225 q171 q92 q172 znX2_init rfl (Nat.le_of_ble_eq_true rfl) (Nat.le_of_ble_eq_true rfl) (Nat.le_of_ble_eq_true rfl) (Nat.le_of_ble_eq_true rfl) rfl (Nat.le_of_ble_eq_true rfl) rfl (fun v9 Q9 h9 => ?_)
  obtain ⟨rfl, Mr1, far1, abr1, hbr1, rfl, fxr1, oar1, hfar1, gfar1, ifar1, habr1, gabr1, iabr1, hhbr1, ghbr1, ihbr1, nefar1abr1, nefar1hbr1, neabr1hbr1⟩ := h9
  have ne2 : a ≠ far1 := fun z9 => by have z8 := hM; rw [z9, gfar1] at z8; cases z8
  have ne3 : a ≠ abr1 := fun z9 => by have z8 := hM; rw [z9, gabr1] at z8; cases z8
  have ne4 : a ≠ hbr1 := fun z9 => by have z8 := hM; rw [z9, ghbr1] at z8; cases z8
  have fx5 : zFx a M Mr1 := fx0.fx fxr1 (Or.inr rfl)
  refine z_as (Pic' := zP θ Mr1 N) (st' := []) rfl rfl rfl ?_
  refine z_widen (n' := 3) (k' := 123) (Nat.le_refl _) (Nat.le_refl _) ?_
  exact z_vret C dX4_init_6 (Nat.le_of_ble_eq_true rfl) (Nat.le_of_ble_eq_true rfl) ⟨rfl, Mr1, far1, abr1, hbr1, rfl, fx5, oar1, hfar1, (fx0.no gfar1 ifar1), (fun z9 => ne2 z9.symm), habr1, (fx0.no gabr1 iabr1), (fun z9 => ne3 z9.symm), hhbr1, (fx0.no ghbr1 ihbr1), (fun z9 => ne4 z9.symm), nefar1abr1, nefar1hbr1, neabr1hbr1⟩
set_option maxRecDepth 100000 in
theorem k5_init_5 {l : Launch} {θ : zTh} {M N : zMap} (hT : zTb θ) (a : Nat) (x : Int) (y : Int) (o : Option Nat) (z : Bool) (r_x : inR x) (r_y : inR y) (hM : M a = some (.inr (5, [.int (iI (0)), .int (iI (0)), .null, .int (iI (0)), .null, .int (iI (0)), .null, .null, .null, .int (iI (0))]))) : ZM θ l yX5_init cX5_init 5 none ⟨3, 3, 123, 84⟩ [.ref (a), .int (iI (x)), .int (iI (y)), va_rf (o), .int (iI (bI (z)))] (zP θ M N) (fun v9 Q9 => v9 = none ∧ ∃ M' : zMap, ∃ fa : Nat, ∃ ab : Nat, ∃ hb : Nat, Q9 = zP θ M' N ∧ zFx a M M' ∧ M' a = some (.inr (5, [.int (iI (x)), .int (iI (y)), .ref (fa), .int (iI (0)), .ref (ab), .int (iI (0)), .ref (hb), .null, va_rf (o), .int (iI (bI (z)))])) ∧ M' fa = some (.inl (θ.2.1 8, 3, xQ (fun _ => none))) ∧ M fa = none ∧ fa ≠ a ∧ M' ab = some (.inl (θ.2.1 8, 60, xQ (fun _ => none))) ∧ M ab = none ∧ ab ≠ a ∧ M' hb = some (metE θ (fun _ => false)) ∧ M hb = none ∧ hb ≠ a ∧ fa ≠ ab ∧ fa ≠ hb ∧ ab ≠ hb) := by
  refine z_start (own := RX5) (nm := "<init>") pnX5 rfl rfl (by cases (o) <;> exact Nat.le_of_ble_eq_true rfl) ?_
  intro κ hκ hκl C
  refine z_as (lv' := [(0, .ref (a)), (1, .int (iI (x))), (2, .int (iI (y))), (3, va_rf (o)), (4, .int (iI (bI (z))))]) rfl (by cases (o) <;> rfl) rfl ?_
  change Z κ (zP θ M N) 0 0 0 [(0, .ref (a)), (1, .int (iI (x))), (2, .int (iI (y))), (3, va_rf (o)), (4, .int (iI (bI (z))))] []
  have fx0 : zFx a M M := zFx.rf
  refine z_aload_n C 1 0 dX5_init_0 rfl rfl ?_
  refine z_iload_n C 2 1 dX5_init_1 rfl rfl ?_
  refine z_iload_n C 3 2 dX5_init_2 rfl rfl ?_
  refine z_callI (As := [.int (iI (x)), .int (iI (y))]) (rest := []) C hκ hκl 6 (k4_init_5 hT (a) (x) (y) r_x r_y hM) dX5_init_3 q222 q223 q94 q224 znX4_init rfl (Nat.le_of_ble_eq_true rfl) (Nat.le_of_ble_eq_true rfl) (Nat.le_of_ble_eq_true rfl) (Nat.le_of_ble_eq_true rfl) rfl (Nat.le_of_ble_eq_true rfl) rfl (fun v9 Q9 h9 => ?_)
  obtain ⟨rfl, Mr1, far1, abr1, hbr1, rfl, fxr1, oar1, hfar1, gfar1, ifar1, habr1, gabr1, iabr1, hhbr1, ghbr1, ihbr1, nefar1abr1, nefar1hbr1, neabr1hbr1⟩ := h9
  have ne2 : a ≠ far1 := fun z9 => by have z8 := hM; rw [z9, gfar1] at z8; cases z8
  have ne3 : a ≠ abr1 := fun z9 => by have z8 := hM; rw [z9, gabr1] at z8; cases z8
  have ne4 : a ≠ hbr1 := fun z9 => by have z8 := hM; rw [z9, ghbr1] at z8; cases z8
  have fx5 : zFx a M Mr1 := fx0.fx fxr1 (Or.inr rfl)
  refine z_as (Pic' := zP θ Mr1 N) (st' := []) rfl rfl rfl ?_
  refine z_widen (n' := 3) (k' := 123) (Nat.le_refl _) (Nat.le_refl _) ?_
  refine z_aload_n C 7 0 dX5_init_6 rfl rfl ?_
  refine z_aload_nq C 8 3 dX5_init_7 rfl rfl ?_
  refine z_putF (fs' := [.int (iI (x)), .int (iI (y)), .ref (far1), .int (iI (0)), .ref (abr1), .int (iI (0)), .ref (hbr1), .null, va_rf (o), .int (iI (0))]) C hκ 11 8 zk_X5 oar1 (by decide) q226 (Or.inl rfl) rfl rfl (by cases (o) <;> rfl) (by cases (o) <;> rfl) (Nat.le_of_ble_eq_true rfl) rfl dX5_init_8 rfl ?_
  obtain ⟨M1, eM1⟩ : ∃ z9 : zMap, zup Mr1 a (.inr (5, [.int (iI (x)), .int (iI (y)), .ref (far1), .int (iI (0)), .ref (abr1), .int (iI (0)), .ref (hbr1), .null, va_rf (o), .int (iI (0))]) : va_E) = z9 := ⟨_, rfl⟩
  rw [eM1]
  have o6 : M1 far1 = some (.inl (θ.2.1 8, 3, xQ (fun _ => none))) := eM1 ▸ (zup_n ifar1).trans hfar1
  have o7 : M1 abr1 = some (.inl (θ.2.1 8, 60, xQ (fun _ => none))) := eM1 ▸ (zup_n iabr1).trans habr1
  have o8 : M1 hbr1 = some (metE θ (fun _ => false)) := eM1 ▸ (zup_n ihbr1).trans hhbr1
  have fx9 : zFx a M M1 := eM1 ▸ fx5.up (Or.inr rfl)
  have o10 : M1 a = some (.inr (5, [.int (iI (x)), .int (iI (y)), .ref (far1), .int (iI (0)), .ref (abr1), .int (iI (0)), .ref (hbr1), .null, va_rf (o), .int (iI (0))])) := eM1 ▸ zup_s
  refine z_aload_n C 12 0 dX5_init_11 rfl rfl ?_
  refine z_iload C 14 4 dX5_init_12 rfl rfl ?_
  refine z_putF (fs' := [.int (iI (x)), .int (iI (y)), .ref (far1), .int (iI (0)), .ref (abr1), .int (iI (0)), .ref (hbr1), .null, va_rf (o), .int (iI (bI (z)))]) C hκ 17 9 zk_X5 o10 (by decide) q227 (Or.inl rfl) rfl rfl (bI_nar _) (bI_fit _) (Nat.le_of_ble_eq_true rfl) rfl dX5_init_14 rfl ?_
  obtain ⟨M2, eM2⟩ : ∃ z9 : zMap, zup M1 a (.inr (5, [.int (iI (x)), .int (iI (y)), .ref (far1), .int (iI (0)), .ref (abr1), .int (iI (0)), .ref (hbr1), .null, va_rf (o), .int (iI (bI (z)))]) : va_E) = z9 := ⟨_, rfl⟩
  rw [eM2]
  have o11 : M2 far1 = some (.inl (θ.2.1 8, 3, xQ (fun _ => none))) := eM2 ▸ (zup_n ifar1).trans o6
  have o12 : M2 abr1 = some (.inl (θ.2.1 8, 60, xQ (fun _ => none))) := eM2 ▸ (zup_n iabr1).trans o7
  have o13 : M2 hbr1 = some (metE θ (fun _ => false)) := eM2 ▸ (zup_n ihbr1).trans o8
  have fx14 : zFx a M M2 := eM2 ▸ fx9.up (Or.inr rfl)
  have o15 : M2 a = some (.inr (5, [.int (iI (x)), .int (iI (y)), .ref (far1), .int (iI (0)), .ref (abr1), .int (iI (0)), .ref (hbr1), .null, va_rf (o), .int (iI (bI (z)))])) := eM2 ▸ zup_s
  exact z_vret C dX5_init_17 (Nat.le_of_ble_eq_true rfl) (Nat.le_of_ble_eq_true rfl) ⟨rfl, M2, far1, abr1, hbr1, rfl, fx14, o15, o11, (fx0.no gfar1 ifar1), (fun z9 => ne2 z9.symm), o12, (fx0.no gabr1 iabr1), (fun z9 => ne3 z9.symm), o13, (fx0.no ghbr1 ihbr1), (fun z9 => ne4 z9.symm), nefar1abr1, nefar1hbr1, neabr1hbr1⟩
set_option maxRecDepth 100000 in
theorem k8_init_8 {l : Launch} {θ : zTh} {σ : xA} {w : mW} {Lf : Int → List Int} {M N : zMap} (hX : xM θ σ w (Lf) M) (hs : xS w) (hw : mWF w) (hT : zTb θ) (a : Nat) (x : Int) (of : Int) (rt : Nat) (r_x : inR x) (hof : 0 ≤ of ∧ of < w 0 0) (hfa : xFr σ w Lf a) (hM : M a = some (.inr (8, [.int (iI (0)), .int (iI (0)), .null, .int (iI (0)), .null, .int (iI (0)), .null, .null, .null, .null]))) : ZM θ l yX8_init cX8_init 4 none ⟨2, 3, 123, 62⟩ [.ref (a), .int (iI (x)), .ref (σ 10 (of)), .ref (rt)] (zP θ M N) (fun v9 Q9 => v9 = none ∧ ∃ M' : zMap, ∃ fa : Nat, ∃ ab : Nat, ∃ hb : Nat, Q9 = zP θ M' N ∧ zFx a M M' ∧ M' a = some (.inr (8, [.int (iI (x)), .int (iI (w 3 (of))), .ref (fa), .int (iI (0)), .ref (ab), .int (iI (0)), .ref (hb), .null, .ref (σ 10 (of)), .ref (rt)])) ∧ M' fa = some (.inl (θ.2.1 8, 3, xQ (fun _ => none))) ∧ M fa = none ∧ fa ≠ a ∧ M' ab = some (.inl (θ.2.1 8, 60, xQ (fun _ => none))) ∧ M ab = none ∧ ab ≠ a ∧ M' hb = some (metE θ (fun _ => false)) ∧ M hb = none ∧ hb ≠ a ∧ fa ≠ ab ∧ fa ≠ hb ∧ ab ≠ hb) := by
  refine z_start (own := RX8) (nm := "<init>") pnX8 rfl rfl (Nat.le_of_ble_eq_true rfl) ?_
  intro κ hκ hκl C
  change Z κ (zP θ M N) 0 0 0 [(0, .ref (a)), (1, .int (iI (x))), (2, .ref (σ 10 (of))), (3, .ref (rt))] []
  have hS := hs.S
  have hB := hS.B
  obtain ⟨hB1, hB2, hB3, hB4, hB5, hB6⟩ := hS.B
  have hC := hS.C
  obtain ⟨h81, h82⟩ := hs.r8
  have fx0 : zFx a M M := zFx.rf
  refine z_aload_n C 1 0 dX8_init_0 rfl rfl ?_
  refine z_iload_n C 2 1 dX8_init_1 rfl rfl ?_
  refine z_aload_n C 3 2 dX8_init_2 rfl rfl ?_
  obtain ⟨f1a, f1b, f1c, f1d, f1e, f1f, f1g, f1h⟩ := hS.T (show 0 ≤ of by omega) (by omega)
  obtain ⟨f1i, f1j, f1k, f1l⟩ := hs.ty (show 0 ≤ of by omega) (by omega)
  refine x_tget (v := .int (iI (w 3 (of)))) C hκ 6 1 hX hs (by omega) (by omega) (by decide) rfl rfl rfl q176 (Or.inl rfl) rfl dX8_init_3 rfl ?_
  refine z_callI (As := [.int (iI (x)), .int (iI (w 3 (of)))]) (rest := []) C hκ hκl 9 (k2_init_8 hT (a) (x) (w 3 (of)) r_x (hw.r _ _ rfl) hM) dX8_init_6 q428 q171 q92 q172 znX2_init rfl (Nat.le_of_ble_eq_true rfl) (Nat.le_of_ble_eq_true rfl) (Nat.le_of_ble_eq_true rfl) (Nat.le_of_ble_eq_true rfl) rfl (Nat.le_of_ble_eq_true rfl) rfl (fun v9 Q9 h9 => ?_)
  obtain ⟨rfl, Mr2, far2, abr2, hbr2, rfl, fxr2, oar2, hfar2, gfar2, ifar2, habr2, gabr2, iabr2, hhbr2, ghbr2, ihbr2, nefar2abr2, nefar2hbr2, neabr2hbr2⟩ := h9
  have ne3 : a ≠ far2 := fun z9 => by have z8 := hM; rw [z9, gfar2] at z8; cases z8
  have ne4 : a ≠ abr2 := fun z9 => by have z8 := hM; rw [z9, gabr2] at z8; cases z8
  have ne5 : a ≠ hbr2 := fun z9 => by have z8 := hM; rw [z9, ghbr2] at z8; cases z8
  have fr6 : xFr σ w (Lf) far2 := hX.fr gfar2
  have fr7 : xFr σ w (Lf) abr2 := hX.fr gabr2
  have fr8 : xFr σ w (Lf) hbr2 := hX.fr ghbr2
  have hX9 : xM θ σ w (Lf) Mr2 := hX.fx fxr2 hfa
  have fx10 : zFx a M Mr2 := fx0.fx fxr2 (Or.inr rfl)
  refine z_as (Pic' := zP θ Mr2 N) (st' := []) rfl rfl rfl ?_
  refine z_widen (n' := 3) (k' := 123) (Nat.le_refl _) (Nat.le_refl _) ?_
  refine z_aload_n C 10 0 dX8_init_9 rfl rfl ?_
  refine z_aload_n C 11 2 dX8_init_10 rfl rfl ?_
  refine z_putF (fs' := [.int (iI (x)), .int (iI ((w 3 (of)))), .ref (far2), .int (iI (0)), .ref (abr2), .int (iI (0)), .ref (hbr2), .null, .ref (σ 10 (of)), .null]) C hκ 14 8 zk_X8 oar2 (by decide) q429 (Or.inl rfl) rfl rfl rfl rfl (Nat.le_of_ble_eq_true rfl) rfl dX8_init_11 rfl ?_
  obtain ⟨M1, eM1⟩ : ∃ z9 : zMap, zup Mr2 a (.inr (8, [.int (iI (x)), .int (iI ((w 3 (of)))), .ref (far2), .int (iI (0)), .ref (abr2), .int (iI (0)), .ref (hbr2), .null, .ref (σ 10 (of)), .null]) : va_E) = z9 := ⟨_, rfl⟩
  rw [eM1]
  have o11 : M1 far2 = some (.inl (θ.2.1 8, 3, xQ (fun _ => none))) := eM1 ▸ (zup_n ifar2).trans hfar2
  have o12 : M1 abr2 = some (.inl (θ.2.1 8, 60, xQ (fun _ => none))) := eM1 ▸ (zup_n iabr2).trans habr2
  have o13 : M1 hbr2 = some (metE θ (fun _ => false)) := eM1 ▸ (zup_n ihbr2).trans hhbr2
  have hX14 : xM θ σ w (Lf) M1 := eM1 ▸ hX9.up hfa
  have fx15 : zFx a M M1 := eM1 ▸ fx10.up (Or.inr rfl)
  have o16 : M1 a = some (.inr (8, [.int (iI (x)), .int (iI ((w 3 (of)))), .ref (far2), .int (iI (0)), .ref (abr2), .int (iI (0)), .ref (hbr2), .null, .ref (σ 10 (of)), .null])) := eM1 ▸ zup_s
  refine z_aload_n C 15 0 dX8_init_14 rfl rfl ?_
  refine z_aload_n C 16 3 dX8_init_15 rfl rfl ?_
  refine z_putF (fs' := [.int (iI (x)), .int (iI ((w 3 (of)))), .ref (far2), .int (iI (0)), .ref (abr2), .int (iI (0)), .ref (hbr2), .null, .ref (σ 10 (of)), .ref (rt)]) C hκ 19 9 zk_X8 o16 (by decide) q430 (Or.inl rfl) rfl rfl rfl rfl (Nat.le_of_ble_eq_true rfl) rfl dX8_init_16 rfl ?_
  obtain ⟨M2, eM2⟩ : ∃ z9 : zMap, zup M1 a (.inr (8, [.int (iI (x)), .int (iI ((w 3 (of)))), .ref (far2), .int (iI (0)), .ref (abr2), .int (iI (0)), .ref (hbr2), .null, .ref (σ 10 (of)), .ref (rt)]) : va_E) = z9 := ⟨_, rfl⟩
  rw [eM2]
  have o17 : M2 far2 = some (.inl (θ.2.1 8, 3, xQ (fun _ => none))) := eM2 ▸ (zup_n ifar2).trans o11
  have o18 : M2 abr2 = some (.inl (θ.2.1 8, 60, xQ (fun _ => none))) := eM2 ▸ (zup_n iabr2).trans o12
  have o19 : M2 hbr2 = some (metE θ (fun _ => false)) := eM2 ▸ (zup_n ihbr2).trans o13
  have hX20 : xM θ σ w (Lf) M2 := eM2 ▸ hX14.up hfa
  have fx21 : zFx a M M2 := eM2 ▸ fx15.up (Or.inr rfl)
  have o22 : M2 a = some (.inr (8, [.int (iI (x)), .int (iI ((w 3 (of)))), .ref (far2), .int (iI (0)), .ref (abr2), .int (iI (0)), .ref (hbr2), .null, .ref (σ 10 (of)), .ref (rt)])) := eM2 ▸ zup_s
  exact z_vret C dX8_init_19 (Nat.le_of_ble_eq_true rfl) (Nat.le_of_ble_eq_true rfl) ⟨rfl, M2, far2, abr2, hbr2, rfl, fx21, o22, o17, (fx0.no gfar2 ifar2), (fun z9 => ne3 z9.symm), o18, (fx0.no gabr2 iabr2), (fun z9 => ne4 z9.symm), o19, (fx0.no ghbr2 ihbr2), (fun z9 => ne5 z9.symm), nefar2abr2, nefar2hbr2, neabr2hbr2⟩
