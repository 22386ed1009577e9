/-! ===== a row held, a frame ===== -/
set_option maxRecDepth 100000 in
theorem k27_init {l : Launch} {θ : zTh} {M N : zMap} (hT : zTb θ) (a : Nat) (x : Int) (ty : Nat) (r : Nat) (cA : ClassId) (xx : vp_A) (t0 : Nat) (tyF : FieldType) (r_x : inR x) (hM : M a = some (.inr (27, [.int (iI (0)), .null, .int (iI (0)), .null, .int (iI (0))]))) (hR : M r = some (.inl (cA, xx))) (ht : (zTys θ)[t0]? = some (cA, tyF)) (m1 : xx.1 ≤ 2147483647) (hne : a ≠ r) : ZM θ l yX27_init cX27_init 4 none ⟨2, 0, 0, 62⟩ [.ref (a), .int (iI (x)), .ref (ty), .ref (r)] (zP θ M N) (zFn none (zP θ (zup M a (.inr (27, [.int (iI (x)), .ref (ty), .int (iI (-1)), .ref (r), .int (iI ((xx.1 : Int)))]))) N)) := by
  refine z_start (own := RX27) (nm := "<init>") pnX27 rfl rfl (Nat.le_of_ble_eq_true rfl) ?_
  intro κ hκ hκl C
  change Z κ (zP θ M N) 0 0 0 [(0, .ref (a)), (1, .int (iI (x))), (2, .ref (ty)), (3, .ref (r))] []
  refine z_aload_n C 1 0 dX27_init_0 rfl rfl ?_
  refine z_iload_n C 2 1 dX27_init_1 rfl rfl ?_
  refine z_aload_n C 3 2 dX27_init_2 rfl rfl ?_
  refine z_callI (As := [.int (iI (x)), .ref (ty)]) (rest := []) C hκ hκl 6 (k23_init_27 hT (a) (x) (ty) r_x hM) dX27_init_3 q1876 q1263 q118 q1264 znX23_init rfl (Nat.le_of_ble_eq_true rfl) (Nat.le_of_ble_eq_true rfl) (Nat.le_of_ble_eq_true rfl) (Nat.le_of_ble_eq_true rfl) rfl (Nat.le_of_ble_eq_true rfl) rfl (fun v9 Q9 h9 => ?_)
  obtain ⟨rfl, rfl⟩ := h9
  obtain ⟨M1, eM1⟩ : ∃ z9 : zMap, zup M a (.inr (27, [.int (iI (x)), .ref (ty), .int (iI (-1)), .null, .int (iI (0))]) : va_E) = z9 := ⟨_, rfl⟩
  rw [eM1]
  have o1 : M1 r = some (.inl (cA, xx)) := eM1 ▸ (zup_n (fun z9 => hne z9.symm)).trans hR
  have o2 : M1 a = some (.inr (27, [.int (iI (x)), .ref (ty), .int (iI (-1)), .null, .int (iI (0))])) := eM1 ▸ zup_s
  refine z_as (st' := []) rfl rfl rfl ?_
  refine z_aload_n C 7 0 dX27_init_6 rfl rfl ?_
  refine z_aload_n C 8 3 dX27_init_7 rfl rfl ?_
  refine z_putF (fs' := [.int (iI (x)), .ref (ty), .int (iI (-1)), .ref (r), .int (iI (0))]) C hκ 11 3 zk_X27 o2 (by decide) q1880 (Or.inl rfl) rfl rfl rfl rfl (Nat.le_of_ble_eq_true rfl) rfl dX27_init_8 rfl ?_
  obtain ⟨M2, eM2⟩ : ∃ z9 : zMap, zup M1 a (.inr (27, [.int (iI (x)), .ref (ty), .int (iI (-1)), .ref (r), .int (iI (0))]) : va_E) = z9 := ⟨_, rfl⟩
  rw [eM2]
  have o3 : M2 r = some (.inl (cA, xx)) := eM2 ▸ (zup_n (fun z9 => hne z9.symm)).trans o1
  have o4 : M2 a = some (.inr (27, [.int (iI (x)), .ref (ty), .int (iI (-1)), .ref (r), .int (iI (0))])) := eM2 ▸ zup_s
  refine z_aload_n C 12 0 dX27_init_11 rfl rfl ?_
  refine z_aload_n C 13 3 dX27_init_12 rfl rfl ?_
  refine zn_len (rest := [.ref (a)]) C hκ hκl 16 o3 ht m1 zc_len dX27_init_13 (Nat.le_of_ble_eq_true rfl) (Nat.le_of_ble_eq_true rfl) (Nat.le_of_ble_eq_true rfl) rfl ?_
  refine z_as (st' := [.int (iI ((xx.1 : Int))), .ref (a)]) rfl rfl rfl ?_
  refine z_putF (fs' := [.int (iI (x)), .ref (ty), .int (iI (-1)), .ref (r), .int (iI ((xx.1 : Int)))]) C hκ 19 4 zk_X27 o4 (by decide) q1883 (Or.inl rfl) rfl rfl rfl rfl (Nat.le_of_ble_eq_true rfl) rfl dX27_init_16 rfl ?_
  obtain ⟨M3, eM3⟩ : ∃ z9 : zMap, zup M2 a (.inr (27, [.int (iI (x)), .ref (ty), .int (iI (-1)), .ref (r), .int (iI ((xx.1 : Int)))]) : va_E) = z9 := ⟨_, rfl⟩
  rw [eM3]
  have o5 : M3 r = some (.inl (cA, xx)) := eM3 ▸ (zup_n (fun z9 => hne z9.symm)).trans o3
  have o6 : M3 a = some (.inr (27, [.int (iI (x)), .ref (ty), .int (iI (-1)), .ref (r), .int (iI ((xx.1 : Int)))])) := eM3 ▸ zup_s
  exact z_vret C dX27_init_19 (Nat.le_of_ble_eq_true rfl) (Nat.le_of_ble_eq_true rfl) ⟨rfl, (congrArg (fun M9 => zP θ M9 N) (by rw [← eM3, ← eM2, ← eM1] <;> simp only [zup_up]))⟩
set_option maxRecDepth 100000 in
theorem k26_init {l : Launch} {θ : zTh} {M N : zMap} (hT : zTb θ) (a : Nat) (s9 : Option Nat) (g : Nat) (wi : Int) (r_wi : inR wi) (hM : M a = some (.inr (26, [.null, .null, .null, .int (iI (0))]))) : ZM θ l yX26_init cX26_init 4 none ⟨2, 1, 3, 60⟩ [.ref (a), va_rf (s9), .ref (g), .int (iI (wi))] (zP θ M N) (fun v9 Q9 => v9 = none ∧ ∃ (ou : Nat) (M' : zMap), Q9 = zP θ M' N ∧ zFx a M M' ∧ M ou = none ∧ ou ≠ a ∧ M' a = some (.inr (26, [va_rf s9, .ref g, .ref ou, .int (iI wi)])) ∧ M' ou = some (.inr (6, [.int (iI 4), .long (lI 0), .null]))) := by
  refine z_start (own := RX26) (nm := "<init>") pnX26 rfl rfl (by cases (s9) <;> exact Nat.le_of_ble_eq_true rfl) ?_
  intro κ hκ hκl C
  refine z_as (lv' := [(0, .ref (a)), (1, va_rf (s9)), (2, .ref (g)), (3, .int (iI (wi)))]) rfl (by cases (s9) <;> rfl) rfl ?_
  change Z κ (zP θ M N) 0 0 0 [(0, .ref (a)), (1, va_rf (s9)), (2, .ref (g)), (3, .int (iI (wi)))] []
  have fx0 : zFx a M M := zFx.rf
  refine z_aload_n C 1 0 dX26_init_0 rfl rfl ?_
  refine z_objInit C 4 dX26_init_1 q1737 q145 q146 (Nat.le_of_ble_eq_true rfl) (Nat.le_of_ble_eq_true rfl) rfl ?_
  refine z_aload_n C 5 0 dX26_init_4 rfl rfl ?_
  refine z_new (fs := [.int (iI (0)), .long (lI (0)), .null]) C hκ 8 zk_X6 q1738 q241 q96 (fun j9 h9 => match j9, h9 with | 0, _ => rfl | 1, _ => rfl | 2, _ => rfl | (j9 + 3), h9 => absurd h9 (by omega)) (Nat.le_of_ble_eq_true rfl) (Nat.le_of_ble_eq_true rfl) dX26_init_5 rfl (fun a1 a1M a1N => ?_)
  refine z_widen (n' := 1) (k' := 3) (Nat.le_refl _) (Nat.le_refl _) ?_
  have ne2 : a ≠ a1 := fun z9 => by have z8 := hM; rw [z9, a1M] at z8; cases z8
  have no3 : M a1 = none := fx0.no a1M (fun z9 => ne2 z9.symm)
  obtain ⟨M1, eM1⟩ : ∃ z9 : zMap, zup M a1 (.inr (6, [.int (iI (0)), .long (lI (0)), .null]) : va_E) = z9 := ⟨_, rfl⟩
  rw [eM1]
  have o4 : M1 a = some (.inr (26, [.null, .null, .null, .int (iI (0))])) := eM1 ▸ (zup_n ne2).trans hM
  have fx5 : zFx a M M1 := eM1 ▸ fx0.up (Or.inl no3)
  have o6 : M1 a1 = some (.inr (6, [.int (iI (0)), .long (lI (0)), .null])) := eM1 ▸ zup_s
  refine z_dup C 9 dX26_init_8 rfl rfl ?_
  refine z_callIN (As := []) (rest := [.ref (a1), .ref (a)]) C hκ hκl hT 12 (k6_init_6 hT (a1) o6) dX26_init_9 q1739 q243 q96 q244 (zNd_of znX6_init) rfl (Nat.le_of_ble_eq_true rfl) (Nat.le_of_ble_eq_true rfl) (Nat.le_of_ble_eq_true rfl) (Nat.le_of_ble_eq_true rfl) rfl (Nat.le_of_ble_eq_true rfl) rfl (fun v9 Q9 h9 => ?_)
  obtain ⟨rfl, rfl⟩ := h9
  obtain ⟨M2, eM2⟩ : ∃ z9 : zMap, zup M1 a1 (.inr (6, [.int (iI (4)), .long (lI (0)), .null]) : va_E) = z9 := ⟨_, rfl⟩
  rw [eM2]
  have o7 : M2 a = some (.inr (26, [.null, .null, .null, .int (iI (0))])) := eM2 ▸ (zup_n ne2).trans o4
  have fx8 : zFx a M M2 := eM2 ▸ fx5.up (Or.inl no3)
  have o9 : M2 a1 = some (.inr (6, [.int (iI (4)), .long (lI (0)), .null])) := eM2 ▸ zup_s
  refine z_as (st' := [.ref (a1), .ref (a)]) rfl rfl rfl ?_
  refine z_putF (fs' := [.null, .null, .ref (a1), .int (iI (0))]) C hκ 15 2 zk_X26 o7 (by decide) q1749 (Or.inl rfl) rfl rfl rfl rfl (Nat.le_of_ble_eq_true rfl) rfl dX26_init_12 rfl ?_
  obtain ⟨M3, eM3⟩ : ∃ z9 : zMap, zup M2 a (.inr (26, [.null, .null, .ref (a1), .int (iI (0))]) : va_E) = z9 := ⟨_, rfl⟩
  rw [eM3]
  have o10 : M3 a1 = some (.inr (6, [.int (iI (4)), .long (lI (0)), .null])) := eM3 ▸ (zup_n (fun z9 => ne2 z9.symm)).trans o9
  have fx11 : zFx a M M3 := eM3 ▸ fx8.up (Or.inr rfl)
  have o12 : M3 a = some (.inr (26, [.null, .null, .ref (a1), .int (iI (0))])) := eM3 ▸ zup_s
  refine z_aload_n C 16 0 dX26_init_15 rfl rfl ?_
  refine z_aload_nq C 17 1 dX26_init_16 rfl rfl ?_
  refine z_putF (fs' := [va_rf (s9), .null, .ref (a1), .int (iI (0))]) C hκ 20 0 zk_X26 o12 (by decide) q1740 (Or.inl rfl) rfl rfl (by cases (s9) <;> rfl) (by cases (s9) <;> rfl) (Nat.le_of_ble_eq_true rfl) rfl dX26_init_17 rfl ?_
  obtain ⟨M4, eM4⟩ : ∃ z9 : zMap, zup M3 a (.inr (26, [va_rf (s9), .null, .ref (a1), .int (iI (0))]) : va_E) = z9 := ⟨_, rfl⟩
  rw [eM4]
  have o13 : M4 a1 = some (.inr (6, [.int (iI (4)), .long (lI (0)), .null])) := eM4 ▸ (zup_n (fun z9 => ne2 z9.symm)).trans o10
  have fx14 : zFx a M M4 := eM4 ▸ fx11.up (Or.inr rfl)
  have o15 : M4 a = some (.inr (26, [va_rf (s9), .null, .ref (a1), .int (iI (0))])) := eM4 ▸ zup_s
  refine z_aload_n C 21 0 dX26_init_20 rfl rfl ?_
  refine z_aload_n C 22 2 dX26_init_21 rfl rfl ?_
  refine z_putF (fs' := [va_rf (s9), .ref (g), .ref (a1), .int (iI (0))]) C hκ 25 1 zk_X26 o15 (by decide) q1743 (Or.inl rfl) rfl rfl rfl rfl (Nat.le_of_ble_eq_true rfl) rfl dX26_init_22 rfl ?_
  obtain ⟨M5, eM5⟩ : ∃ z9 : zMap, zup M4 a (.inr (26, [va_rf (s9), .ref (g), .ref (a1), .int (iI (0))]) : va_E) = z9 := ⟨_, rfl⟩
  rw [eM5]
  have o16 : M5 a1 = some (.inr (6, [.int (iI (4)), .long (lI (0)), .null])) := eM5 ▸ (zup_n (fun z9 => ne2 z9.symm)).trans o13
  have fx17 : zFx a M M5 := eM5 ▸ fx14.up (Or.inr rfl)
  have o18 : M5 a = some (.inr (26, [va_rf (s9), .ref (g), .ref (a1), .int (iI (0))])) := eM5 ▸ zup_s
  refine z_aload_n C 26 0 dX26_init_25 rfl rfl ?_
  refine z_iload_n C 27 3 dX26_init_26 rfl rfl ?_
  refine z_putF (fs' := [va_rf (s9), .ref (g), .ref (a1), .int (iI (wi))]) C hκ 30 3 zk_X26 o18 (by decide) q1753 (Or.inl rfl) rfl rfl rfl rfl (Nat.le_of_ble_eq_true rfl) rfl dX26_init_27 rfl ?_
  obtain ⟨M6, eM6⟩ : ∃ z9 : zMap, zup M5 a (.inr (26, [va_rf (s9), .ref (g), .ref (a1), .int (iI (wi))]) : va_E) = z9 := ⟨_, rfl⟩
  rw [eM6]
  have o19 : M6 a1 = some (.inr (6, [.int (iI (4)), .long (lI (0)), .null])) := eM6 ▸ (zup_n (fun z9 => ne2 z9.symm)).trans o16
  have fx20 : zFx a M M6 := eM6 ▸ fx17.up (Or.inr rfl)
  have o21 : M6 a = some (.inr (26, [va_rf (s9), .ref (g), .ref (a1), .int (iI (wi))])) := eM6 ▸ zup_s
  exact z_vret C dX26_init_30 (Nat.le_of_ble_eq_true rfl) (Nat.le_of_ble_eq_true rfl) ⟨rfl, a1, M6, rfl, fx20, no3, (fun z9 => ne2 z9.symm), o21, o19⟩
