set_option maxRecDepth 100000 in
theorem k6_init_6 {l : Launch} {θ : zTh} {M N : zMap} (hT : zTb θ) (a : Nat)  (hM : M a = some (.inr (6, [.int (iI (0)), .long (lI (0)), .null]))) : ZM θ l yX6_init cX6_init 1 none ⟨1, 0, 0, 40⟩ [.ref (a)] (zP θ M N) (zFn none (zP θ (zup M a (.inr (6, [.int (iI (4)), .long (lI (0)), .null]))) N)) := by
  refine z_start (own := RX6) (nm := "<init>") pnX6 rfl rfl (Nat.le_of_ble_eq_true rfl) ?_
  intro κ hκ hκl C
  change Z κ (zP θ M N) 0 0 0 [(0, .ref (a))] []
  refine z_aload_n C 1 0 dX6_init_0 rfl rfl ?_
  refine z_objInit C 4 dX6_init_1 q245 q145 q146 (Nat.le_of_ble_eq_true rfl) (Nat.le_of_ble_eq_true rfl) rfl ?_
  refine z_aload_n C 5 0 dX6_init_4 rfl rfl ?_
  refine z_iconst C 6 dX6_init_5 rfl ?_
  refine z_putf (fs' := [.int (iI (4)), .long (lI (0)), .null]) C hκ 9 0 zk_X6 hM (by decide) q246 (Or.inl rfl) rfl rfl rfl (Nat.le_of_ble_eq_true rfl) rfl dX6_init_6 rfl ?_
  obtain ⟨M1, eM1⟩ : ∃ z9 : zMap, zup M a (.inr (6, [.int (iI (4)), .long (lI (0)), .null]) : va_E) = z9 := ⟨_, rfl⟩
  rw [eM1]
  have o1 : M1 a = some (.inr (6, [.int (iI (4)), .long (lI (0)), .null])) := eM1 ▸ zup_s
  exact z_vret C dX6_init_9 (Nat.le_of_ble_eq_true rfl) (Nat.le_of_ble_eq_true rfl) ⟨rfl, (congrArg (fun M9 => zP θ M9 N) (by rw [← eM1] <;> simp only [zup_up]))⟩
set_option maxRecDepth 100000 in
theorem k1_init_1 {l : Launch} {θ : zTh} {M N : zMap} (hT : zTb θ) (a : Nat)  (hM : M a = some (.inr (1, [.int (iI (0))]))) : ZM θ l yX1_init cX1_init 1 none ⟨1, 0, 0, 40⟩ [.ref (a)] (zP θ M N) (zFn none (zP θ (M) N)) := by
  refine z_start (own := RX1) (nm := "<init>") pnX1 rfl rfl (Nat.le_of_ble_eq_true rfl) ?_
  intro κ hκ hκl C
  change Z κ (zP θ M N) 0 0 0 [(0, .ref (a))] []
  refine z_aload_n C 1 0 dX1_init_0 rfl rfl ?_
  refine z_objInit C 4 dX1_init_1 q160 q145 q146 (Nat.le_of_ble_eq_true rfl) (Nat.le_of_ble_eq_true rfl) rfl ?_
  exact z_vret C dX1_init_4 (Nat.le_of_ble_eq_true rfl) (Nat.le_of_ble_eq_true rfl) ⟨rfl, rfl⟩
set_option maxRecDepth 100000 in
theorem k10_init_11 {l : Launch} {θ : zTh} {M N : zMap} (hT : zTb θ) (a : Nat) (u : Nat) (mm : Nat)  (hM : M a = some (.inr (11, [.null, .null, .ref (u)]))) : ZM θ l yX10_init cX10_init 3 none ⟨1, 0, 0, 40⟩ [.ref (a), .ref (u), .ref (mm)] (zP θ M N) (zFn none (zP θ (zup M a (.inr (11, [.ref (mm), .ref (u), .ref (u)]))) N)) := by
  refine z_start (own := RX10) (nm := "<init>") pnX10 rfl rfl (Nat.le_of_ble_eq_true rfl) ?_
  intro κ hκ hκl C
  change Z κ (zP θ M N) 0 0 0 [(0, .ref (a)), (1, .ref (u)), (2, .ref (mm))] []
  refine z_aload_n C 1 0 dX10_init_0 rfl rfl ?_
  refine z_aload_n C 2 1 dX10_init_1 rfl rfl ?_
  refine z_putF (fs' := [.null, .ref (u), .ref (u)]) C hκ 5 1 zk_X11 hM (by decide) q779 (Or.inl rfl) rfl rfl rfl rfl (Nat.le_of_ble_eq_true rfl) rfl dX10_init_2 rfl ?_
  obtain ⟨M1, eM1⟩ : ∃ z9 : zMap, zup M a (.inr (11, [.null, .ref (u), .ref (u)]) : va_E) = z9 := ⟨_, rfl⟩
  rw [eM1]
  have o1 : M1 a = some (.inr (11, [.null, .ref (u), .ref (u)])) := eM1 ▸ zup_s
  refine z_aload_n C 6 0 dX10_init_5 rfl rfl ?_
  refine z_objInit C 9 dX10_init_6 q770 q145 q146 (Nat.le_of_ble_eq_true rfl) (Nat.le_of_ble_eq_true rfl) rfl ?_
  refine z_aload_n C 10 0 dX10_init_9 rfl rfl ?_
  refine z_aload_n C 11 2 dX10_init_10 rfl rfl ?_
  refine z_putF (fs' := [.ref (mm), .ref (u), .ref (u)]) C hκ 14 0 zk_X11 o1 (by decide) q772 (Or.inl rfl) rfl rfl rfl rfl (Nat.le_of_ble_eq_true rfl) rfl dX10_init_11 rfl ?_
  obtain ⟨M2, eM2⟩ : ∃ z9 : zMap, zup M1 a (.inr (11, [.ref (mm), .ref (u), .ref (u)]) : va_E) = z9 := ⟨_, rfl⟩
  rw [eM2]
  have o2 : M2 a = some (.inr (11, [.ref (mm), .ref (u), .ref (u)])) := eM2 ▸ zup_s
  exact z_vret C dX10_init_14 (Nat.le_of_ble_eq_true rfl) (Nat.le_of_ble_eq_true rfl) ⟨rfl, (congrArg (fun M9 => zP θ M9 N) (by rw [← eM2, ← eM1] <;> simp only [zup_up]))⟩
set_option maxRecDepth 100000 in
theorem k11_init_11 {l : Launch} {θ : zTh} {M N : zMap} (hT : zTb θ) (a : Nat) (u : Nat) (mm : Nat)  (hM : M a = some (.inr (11, [.null, .null, .null]))) : ZM θ l yX11_init cX11_init 3 none ⟨2, 0, 0, 62⟩ [.ref (a), .ref (u), .ref (mm)] (zP θ M N) (zFn none (zP θ (zup M a (.inr (11, [.ref (mm), .ref (u), .ref (u)]))) N)) := by
  refine z_start (own := RX11) (nm := "<init>") pnX11 rfl rfl (Nat.le_of_ble_eq_true rfl) ?_
  intro κ hκ hκl C
  change Z κ (zP θ M N) 0 0 0 [(0, .ref (a)), (1, .ref (u)), (2, .ref (mm))] []
  refine z_aload_n C 1 0 dX11_init_0 rfl rfl ?_
  refine z_aload_n C 2 1 dX11_init_1 rfl rfl ?_
  refine z_putF (fs' := [.null, .null, .ref (u)]) C hκ 5 2 zk_X11 hM (by decide) q771 (Or.inl rfl) rfl rfl rfl rfl (Nat.le_of_ble_eq_true rfl) rfl dX11_init_2 rfl ?_
  obtain ⟨M1, eM1⟩ : ∃ z9 : zMap, zup M a (.inr (11, [.null, .null, .ref (u)]) : va_E) = z9 := ⟨_, rfl⟩
  rw [eM1]
  have o1 : M1 a = some (.inr (11, [.null, .null, .ref (u)])) := eM1 ▸ zup_s
  refine z_aload_n C 6 0 dX11_init_5 rfl rfl ?_
  refine z_aload_n C 7 1 dX11_init_6 rfl rfl ?_
  refine z_aload_n C 8 2 dX11_init_7 rfl rfl ?_
  refine z_callI (As := [.ref (u), .ref (mm)]) (rest := []) C hκ hκl 11 (k10_init_11 hT (a) (u) (mm) o1) dX11_init_8 q767 q768 q104 q769 znX10_init rfl (Nat.le_of_ble_eq_true rfl) (Nat.le_of_ble_eq_true rfl) (Nat.le_of_ble_eq_true rfl) (Nat.le_of_ble_eq_true rfl) rfl (Nat.le_of_ble_eq_true rfl) rfl (fun v9 Q9 h9 => ?_)
  obtain ⟨rfl, rfl⟩ := h9
  obtain ⟨M2, eM2⟩ : ∃ z9 : zMap, zup M1 a (.inr (11, [.ref (mm), .ref (u), .ref (u)]) : va_E) = z9 := ⟨_, rfl⟩
  rw [eM2]
  have o2 : M2 a = some (.inr (11, [.ref (mm), .ref (u), .ref (u)])) := eM2 ▸ zup_s
  refine z_as (st' := []) rfl rfl rfl ?_
  exact z_vret C dX11_init_11 (Nat.le_of_ble_eq_true rfl) (Nat.le_of_ble_eq_true rfl) ⟨rfl, (congrArg (fun M9 => zP θ M9 N) (by rw [← eM2, ← eM1] <;> simp only [zup_up]))⟩
set_option maxRecDepth 100000 in
theorem k10_init_12 {l : Launch} {θ : zTh} {M N : zMap} (hT : zTb θ) (a : Nat) (u : Nat) (mm : Nat)  (hM : M a = some (.inr (12, [.null, .null, .int (iI (0)), .ref (u)]))) : ZM θ l yX10_init cX10_init 3 none ⟨1, 0, 0, 40⟩ [.ref (a), .ref (u), .ref (mm)] (zP θ M N) (zFn none (zP θ (zup M a (.inr (12, [.ref (mm), .ref (u), .int (iI (0)), .ref (u)]))) N)) := by
  refine z_start (own := RX10) (nm := "<init>") pnX10 rfl rfl (Nat.le_of_ble_eq_true rfl) ?_
  intro κ hκ hκl C
  change Z κ (zP θ M N) 0 0 0 [(0, .ref (a)), (1, .ref (u)), (2, .ref (mm))] []
  refine z_aload_n C 1 0 dX10_init_0 rfl rfl ?_
  refine z_aload_n C 2 1 dX10_init_1 rfl rfl ?_
  refine z_putF (fs' := [.null, .ref (u), .int (iI (0)), .ref (u)]) C hκ 5 1 zk_X12 hM (by decide) q779 (Or.inl rfl) rfl rfl rfl rfl (Nat.le_of_ble_eq_true rfl) rfl dX10_init_2 rfl ?_
  obtain ⟨M1, eM1⟩ : ∃ z9 : zMap, zup M a (.inr (12, [.null, .ref (u), .int (iI (0)), .ref (u)]) : va_E) = z9 := ⟨_, rfl⟩
  rw [eM1]
  have o1 : M1 a = some (.inr (12, [.null, .ref (u), .int (iI (0)), .ref (u)])) := eM1 ▸ zup_s
  refine z_aload_n C 6 0 dX10_init_5 rfl rfl ?_
  refine z_objInit C 9 dX10_init_6 q770 q145 q146 (Nat.le_of_ble_eq_true rfl) (Nat.le_of_ble_eq_true rfl) rfl ?_
  refine z_aload_n C 10 0 dX10_init_9 rfl rfl ?_
  refine z_aload_n C 11 2 dX10_init_10 rfl rfl ?_
  refine z_putF (fs' := [.ref (mm), .ref (u), .int (iI (0)), .ref (u)]) C hκ 14 0 zk_X12 o1 (by decide) q772 (Or.inl rfl) rfl rfl rfl rfl (Nat.le_of_ble_eq_true rfl) rfl dX10_init_11 rfl ?_
  obtain ⟨M2, eM2⟩ : ∃ z9 : zMap, zup M1 a (.inr (12, [.ref (mm), .ref (u), .int (iI (0)), .ref (u)]) : va_E) = z9 := ⟨_, rfl⟩
  rw [eM2]
  have o2 : M2 a = some (.inr (12, [.ref (mm), .ref (u), .int (iI (0)), .ref (u)])) := eM2 ▸ zup_s
  exact z_vret C dX10_init_14 (Nat.le_of_ble_eq_true rfl) (Nat.le_of_ble_eq_true rfl) ⟨rfl, (congrArg (fun M9 => zP θ M9 N) (by rw [← eM2, ← eM1] <;> simp only [zup_up]))⟩
set_option maxRecDepth 100000 in
theorem k12_init_12 {l : Launch} {θ : zTh} {M N : zMap} (hT : zTb θ) (a : Nat) (u : Nat) (mm : Nat) (i : Int) (r_i : inR i) (hM : M a = some (.inr (12, [.null, .null, .int (iI (0)), .null]))) : ZM θ l yX12_init cX12_init 4 none ⟨2, 0, 0, 62⟩ [.ref (a), .ref (u), .ref (mm), .int (iI (i))] (zP θ M N) (zFn none (zP θ (zup M a (.inr (12, [.ref (mm), .ref (u), .int (iI (i)), .ref (u)]))) N)) := by
  refine z_start (own := RX12) (nm := "<init>") pnX12 rfl rfl (Nat.le_of_ble_eq_true rfl) ?_
  intro κ hκ hκl C
  change Z κ (zP θ M N) 0 0 0 [(0, .ref (a)), (1, .ref (u)), (2, .ref (mm)), (3, .int (iI (i)))] []
  refine z_aload_n C 1 0 dX12_init_0 rfl rfl ?_
  refine z_aload_n C 2 1 dX12_init_1 rfl rfl ?_
  refine z_putF (fs' := [.null, .null, .int (iI (0)), .ref (u)]) C hκ 5 3 zk_X12 hM (by decide) q815 (Or.inl rfl) rfl rfl rfl rfl (Nat.le_of_ble_eq_true rfl) rfl dX12_init_2 rfl ?_
  obtain ⟨M1, eM1⟩ : ∃ z9 : zMap, zup M a (.inr (12, [.null, .null, .int (iI (0)), .ref (u)]) : va_E) = z9 := ⟨_, rfl⟩
  rw [eM1]
  have o1 : M1 a = some (.inr (12, [.null, .null, .int (iI (0)), .ref (u)])) := eM1 ▸ zup_s
  refine z_aload_n C 6 0 dX12_init_5 rfl rfl ?_
  refine z_aload_n C 7 1 dX12_init_6 rfl rfl ?_
  refine z_aload_n C 8 2 dX12_init_7 rfl rfl ?_
  refine z_callI (As := [.ref (u), .ref (mm)]) (rest := []) C hκ hκl 11 (k10_init_12 hT (a) (u) (mm) o1) dX12_init_8 q809 q768 q104 q769 znX10_init rfl (Nat.le_of_ble_eq_true rfl) (Nat.le_of_ble_eq_true rfl) (Nat.le_of_ble_eq_true rfl) (Nat.le_of_ble_eq_true rfl) rfl (Nat.le_of_ble_eq_true rfl) rfl (fun v9 Q9 h9 => ?_)
  obtain ⟨rfl, rfl⟩ := h9
  obtain ⟨M2, eM2⟩ : ∃ z9 : zMap, zup M1 a (.inr (12, [.ref (mm), .ref (u), .int (iI (0)), .ref (u)]) : va_E) = z9 := ⟨_, rfl⟩
  rw [eM2]
  have o2 : M2 a = some (.inr (12, [.ref (mm), .ref (u), .int (iI (0)), .ref (u)])) := eM2 ▸ zup_s
  refine z_as (st' := []) rfl rfl rfl ?_
  refine z_aload_n C 12 0 dX12_init_11 rfl rfl ?_
  refine z_iload_n C 13 3 dX12_init_12 rfl rfl ?_
  refine z_putF (fs' := [.ref (mm), .ref (u), .int (iI (i)), .ref (u)]) C hκ 16 2 zk_X12 o2 (by decide) q810 (Or.inl rfl) rfl rfl rfl rfl (Nat.le_of_ble_eq_true rfl) rfl dX12_init_13 rfl ?_
  obtain ⟨M3, eM3⟩ : ∃ z9 : zMap, zup M2 a (.inr (12, [.ref (mm), .ref (u), .int (iI (i)), .ref (u)]) : va_E) = z9 := ⟨_, rfl⟩
  rw [eM3]
  have o3 : M3 a = some (.inr (12, [.ref (mm), .ref (u), .int (iI (i)), .ref (u)])) := eM3 ▸ zup_s
  exact z_vret C dX12_init_16 (Nat.le_of_ble_eq_true rfl) (Nat.le_of_ble_eq_true rfl) ⟨rfl, (congrArg (fun M9 => zP θ M9 N) (by rw [← eM3, ← eM2, ← eM1] <;> simp only [zup_up]))⟩
set_option maxRecDepth 100000 in
theorem k10_init_13 {l : Launch} {θ : zTh} {M N : zMap} (hT : zTb θ) (a : Nat) (u : Nat) (mm : Nat)  (hM : M a = some (.inr (13, [.null, .null, .null, .ref (u)]))) : ZM θ l yX10_init cX10_init 3 none ⟨1, 0, 0, 40⟩ [.ref (a), .ref (u), .ref (mm)] (zP θ M N) (zFn none (zP θ (zup M a (.inr (13, [.ref (mm), .ref (u), .null, .ref (u)]))) N)) := by
  refine z_start (own := RX10) (nm := "<init>") pnX10 rfl rfl (Nat.le_of_ble_eq_true rfl) ?_
  intro κ hκ hκl C
  change Z κ (zP θ M N) 0 0 0 [(0, .ref (a)), (1, .ref (u)), (2, .ref (mm))] []
  refine z_aload_n C 1 0 dX10_init_0 rfl rfl ?_
  refine z_aload_n C 2 1 dX10_init_1 rfl rfl ?_
  refine z_putF (fs' := [.null, .ref (u), .null, .ref (u)]) C hκ 5 1 zk_X13 hM (by decide) q779 (Or.inl rfl) rfl rfl rfl rfl (Nat.le_of_ble_eq_true rfl) rfl dX10_init_2 rfl ?_
  obtain ⟨M1, eM1⟩ : ∃ z9 : zMap, zup M a (.inr (13, [.null, .ref (u), .null, .ref (u)]) : va_E) = z9 := ⟨_, rfl⟩
  rw [eM1]
  have o1 : M1 a = some (.inr (13, [.null, .ref (u), .null, .ref (u)])) := eM1 ▸ zup_s
  refine z_aload_n C 6 0 dX10_init_5 rfl rfl ?_
  refine z_objInit C 9 dX10_init_6 q770 q145 q146 (Nat.le_of_ble_eq_true rfl) (Nat.le_of_ble_eq_true rfl) rfl ?_
  refine z_aload_n C 10 0 dX10_init_9 rfl rfl ?_
  refine z_aload_n C 11 2 dX10_init_10 rfl rfl ?_
  refine z_putF (fs' := [.ref (mm), .ref (u), .null, .ref (u)]) C hκ 14 0 zk_X13 o1 (by decide) q772 (Or.inl rfl) rfl rfl rfl rfl (Nat.le_of_ble_eq_true rfl) rfl dX10_init_11 rfl ?_
  obtain ⟨M2, eM2⟩ : ∃ z9 : zMap, zup M1 a (.inr (13, [.ref (mm), .ref (u), .null, .ref (u)]) : va_E) = z9 := ⟨_, rfl⟩
  rw [eM2]
  have o2 : M2 a = some (.inr (13, [.ref (mm), .ref (u), .null, .ref (u)])) := eM2 ▸ zup_s
  exact z_vret C dX10_init_14 (Nat.le_of_ble_eq_true rfl) (Nat.le_of_ble_eq_true rfl) ⟨rfl, (congrArg (fun M9 => zP θ M9 N) (by rw [← eM2, ← eM1] <;> simp only [zup_up]))⟩
set_option maxRecDepth 100000 in
theorem k13_init_13 {l : Launch} {θ : zTh} {M N : zMap} (hT : zTb θ) (a : Nat) (u : Nat) (mm : Nat) (f : Option Nat)  (hM : M a = some (.inr (13, [.null, .null, .null, .null]))) : ZM θ l yX13_init cX13_init 4 none ⟨2, 0, 0, 62⟩ [.ref (a), .ref (u), .ref (mm), va_rf (f)] (zP θ M N) (zFn none (zP θ (zup M a (.inr (13, [.ref (mm), .ref (u), va_rf (f), .ref (u)]))) N)) := by
  refine z_start (own := RX13) (nm := "<init>") pnX13 rfl rfl (by cases (f) <;> exact Nat.le_of_ble_eq_true rfl) ?_
  intro κ hκ hκl C
  refine z_as (lv' := [(0, .ref (a)), (1, .ref (u)), (2, .ref (mm)), (3, va_rf (f))]) rfl (by cases (f) <;> rfl) rfl ?_
  change Z κ (zP θ M N) 0 0 0 [(0, .ref (a)), (1, .ref (u)), (2, .ref (mm)), (3, va_rf (f))] []
  refine z_aload_n C 1 0 dX13_init_0 rfl rfl ?_
  refine z_aload_n C 2 1 dX13_init_1 rfl rfl ?_
  refine z_putF (fs' := [.null, .null, .null, .ref (u)]) C hκ 5 3 zk_X13 hM (by decide) q832 (Or.inl rfl) rfl rfl rfl rfl (Nat.le_of_ble_eq_true rfl) rfl dX13_init_2 rfl ?_
  obtain ⟨M1, eM1⟩ : ∃ z9 : zMap, zup M a (.inr (13, [.null, .null, .null, .ref (u)]) : va_E) = z9 := ⟨_, rfl⟩
  rw [eM1]
  have o1 : M1 a = some (.inr (13, [.null, .null, .null, .ref (u)])) := eM1 ▸ zup_s
  refine z_aload_n C 6 0 dX13_init_5 rfl rfl ?_
  refine z_aload_n C 7 1 dX13_init_6 rfl rfl ?_
  refine z_aload_n C 8 2 dX13_init_7 rfl rfl ?_
  refine z_callI (As := [.ref (u), .ref (mm)]) (rest := []) C hκ hκl 11 (k10_init_13 hT (a) (u) (mm) o1) dX13_init_8 q828 q768 q104 q769 znX10_init rfl (Nat.le_of_ble_eq_true rfl) (Nat.le_of_ble_eq_true rfl) (Nat.le_of_ble_eq_true rfl) (Nat.le_of_ble_eq_true rfl) rfl (Nat.le_of_ble_eq_true rfl) rfl (fun v9 Q9 h9 => ?_)
  obtain ⟨rfl, rfl⟩ := h9
  obtain ⟨M2, eM2⟩ : ∃ z9 : zMap, zup M1 a (.inr (13, [.ref (mm), .ref (u), .null, .ref (u)]) : va_E) = z9 := ⟨_, rfl⟩
  rw [eM2]
  have o2 : M2 a = some (.inr (13, [.ref (mm), .ref (u), .null, .ref (u)])) := eM2 ▸ zup_s
  refine z_as (st' := []) rfl rfl rfl ?_
  refine z_aload_n C 12 0 dX13_init_11 rfl rfl ?_
  refine z_aload_nq C 13 3 dX13_init_12 rfl rfl ?_
  refine z_putF (fs' := [.ref (mm), .ref (u), va_rf (f), .ref (u)]) C hκ 16 2 zk_X13 o2 (by decide) q829 (Or.inl rfl) rfl rfl (by cases (f) <;> rfl) (by cases (f) <;> rfl) (Nat.le_of_ble_eq_true rfl) rfl dX13_init_13 rfl ?_
  obtain ⟨M3, eM3⟩ : ∃ z9 : zMap, zup M2 a (.inr (13, [.ref (mm), .ref (u), va_rf (f), .ref (u)]) : va_E) = z9 := ⟨_, rfl⟩
  rw [eM3]
  have o3 : M3 a = some (.inr (13, [.ref (mm), .ref (u), va_rf (f), .ref (u)])) := eM3 ▸ zup_s
  exact z_vret C dX13_init_16 (Nat.le_of_ble_eq_true rfl) (Nat.le_of_ble_eq_true rfl) ⟨rfl, (congrArg (fun M9 => zP θ M9 N) (by rw [← eM3, ← eM2, ← eM1] <;> simp only [zup_up]))⟩
set_option maxRecDepth 100000 in
theorem k10_init_15 {l : Launch} {θ : zTh} {M N : zMap} (hT : zTb θ) (a : Nat) (u : Nat) (mm : Nat)  (hM : M a = some (.inr (15, [.null, .null, .int (iI (0)), .ref (u)]))) : ZM θ l yX10_init cX10_init 3 none ⟨1, 0, 0, 40⟩ [.ref (a), .ref (u), .ref (mm)] (zP θ M N) (zFn none (zP θ (zup M a (.inr (15, [.ref (mm), .ref (u), .int (iI (0)), .ref (u)]))) N)) := by
  refine z_start (own := RX10) (nm := "<init>") pnX10 rfl rfl (Nat.le_of_ble_eq_true rfl) ?_
  intro κ hκ hκl C
  change Z κ (zP θ M N) 0 0 0 [(0, .ref (a)), (1, .ref (u)), (2, .ref (mm))] []
  refine z_aload_n C 1 0 dX10_init_0 rfl rfl ?_
  refine z_aload_n C 2 1 dX10_init_1 rfl rfl ?_
  refine z_putF (fs' := [.null, .ref (u), .int (iI (0)), .ref (u)]) C hκ 5 1 zk_X15 hM (by decide) q779 (Or.inl rfl) rfl rfl rfl rfl (Nat.le_of_ble_eq_true rfl) rfl dX10_init_2 rfl ?_
  obtain ⟨M1, eM1⟩ : ∃ z9 : zMap, zup M a (.inr (15, [.null, .ref (u), .int (iI (0)), .ref (u)]) : va_E) = z9 := ⟨_, rfl⟩
  rw [eM1]
  have o1 : M1 a = some (.inr (15, [.null, .ref (u), .int (iI (0)), .ref (u)])) := eM1 ▸ zup_s
  refine z_aload_n C 6 0 dX10_init_5 rfl rfl ?_
  refine z_objInit C 9 dX10_init_6 q770 q145 q146 (Nat.le_of_ble_eq_true rfl) (Nat.le_of_ble_eq_true rfl) rfl ?_
  refine z_aload_n C 10 0 dX10_init_9 rfl rfl ?_
  refine z_aload_n C 11 2 dX10_init_10 rfl rfl ?_
  refine z_putF (fs' := [.ref (mm), .ref (u), .int (iI (0)), .ref (u)]) C hκ 14 0 zk_X15 o1 (by decide) q772 (Or.inl rfl) rfl rfl rfl rfl (Nat.le_of_ble_eq_true rfl) rfl dX10_init_11 rfl ?_
  obtain ⟨M2, eM2⟩ : ∃ z9 : zMap, zup M1 a (.inr (15, [.ref (mm), .ref (u), .int (iI (0)), .ref (u)]) : va_E) = z9 := ⟨_, rfl⟩
  rw [eM2]
  have o2 : M2 a = some (.inr (15, [.ref (mm), .ref (u), .int (iI (0)), .ref (u)])) := eM2 ▸ zup_s
  exact z_vret C dX10_init_14 (Nat.le_of_ble_eq_true rfl) (Nat.le_of_ble_eq_true rfl) ⟨rfl, (congrArg (fun M9 => zP θ M9 N) (by rw [← eM2, ← eM1] <;> simp only [zup_up]))⟩
set_option maxRecDepth 100000 in
theorem k15_init_15 {l : Launch} {θ : zTh} {M N : zMap} (hT : zTb θ) (a : Nat) (u : Nat) (mm : Nat) (i : Int) (r_i : inR i) (hM : M a = some (.inr (15, [.null, .null, .int (iI (0)), .null]))) : ZM θ l yX15_init cX15_init 4 none ⟨2, 0, 0, 62⟩ [.ref (a), .ref (u), .ref (mm), .int (iI (i))] (zP θ M N) (zFn none (zP θ (zup M a (.inr (15, [.ref (mm), .ref (u), .int (iI (i)), .ref (u)]))) N)) := by
  refine z_start (own := RX15) (nm := "<init>") pnX15 rfl rfl (Nat.le_of_ble_eq_true rfl) ?_
  intro κ hκ hκl C
  change Z κ (zP θ M N) 0 0 0 [(0, .ref (a)), (1, .ref (u)), (2, .ref (mm)), (3, .int (iI (i)))] []
  refine z_aload_n C 1 0 dX15_init_0 rfl rfl ?_
  refine z_aload_n C 2 1 dX15_init_1 rfl rfl ?_
  refine z_putF (fs' := [.null, .null, .int (iI (0)), .ref (u)]) C hκ 5 3 zk_X15 hM (by decide) q864 (Or.inl rfl) rfl rfl rfl rfl (Nat.le_of_ble_eq_true rfl) rfl dX15_init_2 rfl ?_
  obtain ⟨M1, eM1⟩ : ∃ z9 : zMap, zup M a (.inr (15, [.null, .null, .int (iI (0)), .ref (u)]) : va_E) = z9 := ⟨_, rfl⟩
  rw [eM1]
  have o1 : M1 a = some (.inr (15, [.null, .null, .int (iI (0)), .ref (u)])) := eM1 ▸ zup_s
  refine z_aload_n C 6 0 dX15_init_5 rfl rfl ?_
  refine z_aload_n C 7 1 dX15_init_6 rfl rfl ?_
  refine z_aload_n C 8 2 dX15_init_7 rfl rfl ?_
  refine z_callI (As := [.ref (u), .ref (mm)]) (rest := []) C hκ hκl 11 (k10_init_15 hT (a) (u) (mm) o1) dX15_init_8 q862 q768 q104 q769 znX10_init rfl (Nat.le_of_ble_eq_true rfl) (Nat.le_of_ble_eq_true rfl) (Nat.le_of_ble_eq_true rfl) (Nat.le_of_ble_eq_true rfl) rfl (Nat.le_of_ble_eq_true rfl) rfl (fun v9 Q9 h9 => ?_)
  obtain ⟨rfl, rfl⟩ := h9
  obtain ⟨M2, eM2⟩ : ∃ z9 : zMap, zup M1 a (.inr (15, [.ref (mm), .ref (u), .int (iI (0)), .ref (u)]) : va_E) = z9 := ⟨_, rfl⟩
  rw [eM2]
  have o2 : M2 a = some (.inr (15, [.ref (mm), .ref (u), .int (iI (0)), .ref (u)])) := eM2 ▸ zup_s
  refine z_as (st' := []) rfl rfl rfl ?_
  refine z_aload_n C 12 0 dX15_init_11 rfl rfl ?_
  refine z_iload_n C 13 3 dX15_init_12 rfl rfl ?_
  refine z_putF (fs' := [.ref (mm), .ref (u), .int (iI (i)), .ref (u)]) C hκ 16 2 zk_X15 o2 (by decide) q863 (Or.inl rfl) rfl rfl rfl rfl (Nat.le_of_ble_eq_true rfl) rfl dX15_init_13 rfl ?_
  obtain ⟨M3, eM3⟩ : ∃ z9 : zMap, zup M2 a (.inr (15, [.ref (mm), .ref (u), .int (iI (i)), .ref (u)]) : va_E) = z9 := ⟨_, rfl⟩
  rw [eM3]
  have o3 : M3 a = some (.inr (15, [.ref (mm), .ref (u), .int (iI (i)), .ref (u)])) := eM3 ▸ zup_s
  exact z_vret C dX15_init_16 (Nat.le_of_ble_eq_true rfl) (Nat.le_of_ble_eq_true rfl) ⟨rfl, (congrArg (fun M9 => zP θ M9 N) (by rw [← eM3, ← eM2, ← eM1] <;> simp only [zup_up]))⟩
set_option maxRecDepth 100000 in
theorem k10_init_16 {l : Launch} {θ : zTh} {M N : zMap} (hT : zTb θ) (a : Nat) (u : Nat) (mm : Nat)  (hM : M a = some (.inr (16, [.null, .null, .null, .ref (u)]))) : ZM θ l yX10_init cX10_init 3 none ⟨1, 0, 0, 40⟩ [.ref (a), .ref (u), .ref (mm)] (zP θ M N) (zFn none (zP θ (zup M a (.inr (16, [.ref (mm), .ref (u), .null, .ref (u)]))) N)) := by
  refine z_start (own := RX10) (nm := "<init>") pnX10 rfl rfl (Nat.le_of_ble_eq_true rfl) ?_
  intro κ hκ hκl C
  change Z κ (zP θ M N) 0 0 0 [(0, .ref (a)), (1, .ref (u)), (2, .ref (mm))] []
  refine z_aload_n C 1 0 dX10_init_0 rfl rfl ?_
  refine z_aload_n C 2 1 dX10_init_1 rfl rfl ?_
  refine z_putF (fs' := [.null, .ref (u), .null, .ref (u)]) C hκ 5 1 zk_X16 hM (by decide) q779 (Or.inl rfl) rfl rfl rfl rfl (Nat.le_of_ble_eq_true rfl) rfl dX10_init_2 rfl ?_
  obtain ⟨M1, eM1⟩ : ∃ z9 : zMap, zup M a (.inr (16, [.null, .ref (u), .null, .ref (u)]) : va_E) = z9 := ⟨_, rfl⟩
  rw [eM1]
  have o1 : M1 a = some (.inr (16, [.null, .ref (u), .null, .ref (u)])) := eM1 ▸ zup_s
  refine z_aload_n C 6 0 dX10_init_5 rfl rfl ?_
  refine z_objInit C 9 dX10_init_6 q770 q145 q146 (Nat.le_of_ble_eq_true rfl) (Nat.le_of_ble_eq_true rfl) rfl ?_
  refine z_aload_n C 10 0 dX10_init_9 rfl rfl ?_
  refine z_aload_n C 11 2 dX10_init_10 rfl rfl ?_
  refine z_putF (fs' := [.ref (mm), .ref (u), .null, .ref (u)]) C hκ 14 0 zk_X16 o1 (by decide) q772 (Or.inl rfl) rfl rfl rfl rfl (Nat.le_of_ble_eq_true rfl) rfl dX10_init_11 rfl ?_
  obtain ⟨M2, eM2⟩ : ∃ z9 : zMap, zup M1 a (.inr (16, [.ref (mm), .ref (u), .null, .ref (u)]) : va_E) = z9 := ⟨_, rfl⟩
  rw [eM2]
  have o2 : M2 a = some (.inr (16, [.ref (mm), .ref (u), .null, .ref (u)])) := eM2 ▸ zup_s
  exact z_vret C dX10_init_14 (Nat.le_of_ble_eq_true rfl) (Nat.le_of_ble_eq_true rfl) ⟨rfl, (congrArg (fun M9 => zP θ M9 N) (by rw [← eM2, ← eM1] <;> simp only [zup_up]))⟩
set_option maxRecDepth 100000 in
theorem k16_init_16 {l : Launch} {θ : zTh} {M N : zMap} (hT : zTb θ) (a : Nat) (u : Nat) (mm : Nat) (f : Option Nat)  (hM : M a = some (.inr (16, [.null, .null, .null, .null]))) : ZM θ l yX16_init cX16_init 4 none ⟨2, 0, 0, 62⟩ [.ref (a), .ref (u), .ref (mm), va_rf (f)] (zP θ M N) (zFn none (zP θ (zup M a (.inr (16, [.ref (mm), .ref (u), va_rf (f), .ref (u)]))) N)) := by
  refine z_start (own := RX16) (nm := "<init>") pnX16 rfl rfl (by cases (f) <;> exact Nat.le_of_ble_eq_true rfl) ?_
  intro κ hκ hκl C
  refine z_as (lv' := [(0, .ref (a)), (1, .ref (u)), (2, .ref (mm)), (3, va_rf (f))]) rfl (by cases (f) <;> rfl) rfl ?_
  change Z κ (zP θ M N) 0 0 0 [(0, .ref (a)), (1, .ref (u)), (2, .ref (mm)), (3, va_rf (f))] []
  refine z_aload_n C 1 0 dX16_init_0 rfl rfl ?_
  refine z_aload_n C 2 1 dX16_init_1 rfl rfl ?_
  refine z_putF (fs' := [.null, .null, .null, .ref (u)]) C hκ 5 3 zk_X16 hM (by decide) q881 (Or.inl rfl) rfl rfl rfl rfl (Nat.le_of_ble_eq_true rfl) rfl dX16_init_2 rfl ?_
  obtain ⟨M1, eM1⟩ : ∃ z9 : zMap, zup M a (.inr (16, [.null, .null, .null, .ref (u)]) : va_E) = z9 := ⟨_, rfl⟩
  rw [eM1]
  have o1 : M1 a = some (.inr (16, [.null, .null, .null, .ref (u)])) := eM1 ▸ zup_s
  refine z_aload_n C 6 0 dX16_init_5 rfl rfl ?_
  refine z_aload_n C 7 1 dX16_init_6 rfl rfl ?_
  refine z_aload_n C 8 2 dX16_init_7 rfl rfl ?_
  refine z_callI (As := [.ref (u), .ref (mm)]) (rest := []) C hκ hκl 11 (k10_init_16 hT (a) (u) (mm) o1) dX16_init_8 q877 q768 q104 q769 znX10_init rfl (Nat.le_of_ble_eq_true rfl) (Nat.le_of_ble_eq_true rfl) (Nat.le_of_ble_eq_true rfl) (Nat.le_of_ble_eq_true rfl) rfl (Nat.le_of_ble_eq_true rfl) rfl (fun v9 Q9 h9 => ?_)
  obtain ⟨rfl, rfl⟩ := h9
  obtain ⟨M2, eM2⟩ : ∃ z9 : zMap, zup M1 a (.inr (16, [.ref (mm), .ref (u), .null, .ref (u)]) : va_E) = z9 := ⟨_, rfl⟩
  rw [eM2]
  have o2 : M2 a = some (.inr (16, [.ref (mm), .ref (u), .null, .ref (u)])) := eM2 ▸ zup_s
  refine z_as (st' := []) rfl rfl rfl ?_
  refine z_aload_n C 12 0 dX16_init_11 rfl rfl ?_
  refine z_aload_nq C 13 3 dX16_init_12 rfl rfl ?_
  refine z_putF (fs' := [.ref (mm), .ref (u), va_rf (f), .ref (u)]) C hκ 16 2 zk_X16 o2 (by decide) q878 (Or.inl rfl) rfl rfl (by cases (f) <;> rfl) (by cases (f) <;> rfl) (Nat.le_of_ble_eq_true rfl) rfl dX16_init_13 rfl ?_
  obtain ⟨M3, eM3⟩ : ∃ z9 : zMap, zup M2 a (.inr (16, [.ref (mm), .ref (u), va_rf (f), .ref (u)]) : va_E) = z9 := ⟨_, rfl⟩
  rw [eM3]
  have o3 : M3 a = some (.inr (16, [.ref (mm), .ref (u), va_rf (f), .ref (u)])) := eM3 ▸ zup_s
  exact z_vret C dX16_init_16 (Nat.le_of_ble_eq_true rfl) (Nat.le_of_ble_eq_true rfl) ⟨rfl, (congrArg (fun M9 => zP θ M9 N) (by rw [← eM3, ← eM2, ← eM1] <;> simp only [zup_up]))⟩
set_option maxRecDepth 100000 in
theorem k10_init_14 {l : Launch} {θ : zTh} {M N : zMap} (hT : zTb θ) (a : Nat) (u : Nat) (mm : Nat)  (hM : M a = some (.inr (14, [.null, .null, .null, .ref (u), .int (iI (0)), .ref (u)]))) : ZM θ l yX10_init cX10_init 3 none ⟨1, 0, 0, 40⟩ [.ref (a), .ref (u), .ref (mm)] (zP θ M N) (zFn none (zP θ (zup M a (.inr (14, [.ref (mm), .ref (u), .null, .ref (u), .int (iI (0)), .ref (u)]))) N)) := by
  refine z_start (own := RX10) (nm := "<init>") pnX10 rfl rfl (Nat.le_of_ble_eq_true rfl) ?_
  intro κ hκ hκl C
  change Z κ (zP θ M N) 0 0 0 [(0, .ref (a)), (1, .ref (u)), (2, .ref (mm))] []
  refine z_aload_n C 1 0 dX10_init_0 rfl rfl ?_
  refine z_aload_n C 2 1 dX10_init_1 rfl rfl ?_
  refine z_putF (fs' := [.null, .ref (u), .null, .ref (u), .int (iI (0)), .ref (u)]) C hκ 5 1 zk_X14 hM (by decide) q779 (Or.inl rfl) rfl rfl rfl rfl (Nat.le_of_ble_eq_true rfl) rfl dX10_init_2 rfl ?_
  obtain ⟨M1, eM1⟩ : ∃ z9 : zMap, zup M a (.inr (14, [.null, .ref (u), .null, .ref (u), .int (iI (0)), .ref (u)]) : va_E) = z9 := ⟨_, rfl⟩
  rw [eM1]
  have o1 : M1 a = some (.inr (14, [.null, .ref (u), .null, .ref (u), .int (iI (0)), .ref (u)])) := eM1 ▸ zup_s
  refine z_aload_n C 6 0 dX10_init_5 rfl rfl ?_
  refine z_objInit C 9 dX10_init_6 q770 q145 q146 (Nat.le_of_ble_eq_true rfl) (Nat.le_of_ble_eq_true rfl) rfl ?_
  refine z_aload_n C 10 0 dX10_init_9 rfl rfl ?_
  refine z_aload_n C 11 2 dX10_init_10 rfl rfl ?_
  refine z_putF (fs' := [.ref (mm), .ref (u), .null, .ref (u), .int (iI (0)), .ref (u)]) C hκ 14 0 zk_X14 o1 (by decide) q772 (Or.inl rfl) rfl rfl rfl rfl (Nat.le_of_ble_eq_true rfl) rfl dX10_init_11 rfl ?_
  obtain ⟨M2, eM2⟩ : ∃ z9 : zMap, zup M1 a (.inr (14, [.ref (mm), .ref (u), .null, .ref (u), .int (iI (0)), .ref (u)]) : va_E) = z9 := ⟨_, rfl⟩
  rw [eM2]
  have o2 : M2 a = some (.inr (14, [.ref (mm), .ref (u), .null, .ref (u), .int (iI (0)), .ref (u)])) := eM2 ▸ zup_s
  exact z_vret C dX10_init_14 (Nat.le_of_ble_eq_true rfl) (Nat.le_of_ble_eq_true rfl) ⟨rfl, (congrArg (fun M9 => zP θ M9 N) (by rw [← eM2, ← eM1] <;> simp only [zup_up]))⟩
set_option maxRecDepth 100000 in
theorem k13_init_14 {l : Launch} {θ : zTh} {M N : zMap} (hT : zTb θ) (a : Nat) (u : Nat) (mm : Nat) (f : Option Nat)  (hM : M a = some (.inr (14, [.null, .null, .null, .null, .int (iI (0)), .ref (u)]))) : ZM θ l yX13_init cX13_init 4 none ⟨2, 0, 0, 62⟩ [.ref (a), .ref (u), .ref (mm), va_rf (f)] (zP θ M N) (zFn none (zP θ (zup M a (.inr (14, [.ref (mm), .ref (u), va_rf (f), .ref (u), .int (iI (0)), .ref (u)]))) N)) := by
  refine z_start (own := RX13) (nm := "<init>") pnX13 rfl rfl (by cases (f) <;> exact Nat.le_of_ble_eq_true rfl) ?_
  intro κ hκ hκl C
  refine z_as (lv' := [(0, .ref (a)), (1, .ref (u)), (2, .ref (mm)), (3, va_rf (f))]) rfl (by cases (f) <;> rfl) rfl ?_
  change Z κ (zP θ M N) 0 0 0 [(0, .ref (a)), (1, .ref (u)), (2, .ref (mm)), (3, va_rf (f))] []
  refine z_aload_n C 1 0 dX13_init_0 rfl rfl ?_
  refine z_aload_n C 2 1 dX13_init_1 rfl rfl ?_
  refine z_putF (fs' := [.null, .null, .null, .ref (u), .int (iI (0)), .ref (u)]) C hκ 5 3 zk_X14 hM (by decide) q832 (Or.inl rfl) rfl rfl rfl rfl (Nat.le_of_ble_eq_true rfl) rfl dX13_init_2 rfl ?_
  obtain ⟨M1, eM1⟩ : ∃ z9 : zMap, zup M a (.inr (14, [.null, .null, .null, .ref (u), .int (iI (0)), .ref (u)]) : va_E) = z9 := ⟨_, rfl⟩
  rw [eM1]
  have o1 : M1 a = some (.inr (14, [.null, .null, .null, .ref (u), .int (iI (0)), .ref (u)])) := eM1 ▸ zup_s
  refine z_aload_n C 6 0 dX13_init_5 rfl rfl ?_
  refine z_aload_n C 7 1 dX13_init_6 rfl rfl ?_
  refine z_aload_n C 8 2 dX13_init_7 rfl rfl ?_
  refine z_callI (As := [.ref (u), .ref (mm)]) (rest := []) C hκ hκl 11 (k10_init_14 hT (a) (u) (mm) o1) dX13_init_8 q828 q768 q104 q769 znX10_init rfl (Nat.le_of_ble_eq_true rfl) (Nat.le_of_ble_eq_true rfl) (Nat.le_of_ble_eq_true rfl) (Nat.le_of_ble_eq_true rfl) rfl (Nat.le_of_ble_eq_true rfl) rfl (fun v9 Q9 h9 => ?_)
  obtain ⟨rfl, rfl⟩ := h9
  obtain ⟨M2, eM2⟩ : ∃ z9 : zMap, zup M1 a (.inr (14, [.ref (mm), .ref (u), .null, .ref (u), .int (iI (0)), .ref (u)]) : va_E) = z9 := ⟨_, rfl⟩
  rw [eM2]
  have o2 : M2 a = some (.inr (14, [.ref (mm), .ref (u), .null, .ref (u), .int (iI (0)), .ref (u)])) := eM2 ▸ zup_s
  refine z_as (st' := []) rfl rfl rfl ?_
  refine z_aload_n C 12 0 dX13_init_11 rfl rfl ?_
  refine z_aload_nq C 13 3 dX13_init_12 rfl rfl ?_
  refine z_putF (fs' := [.ref (mm), .ref (u), va_rf (f), .ref (u), .int (iI (0)), .ref (u)]) C hκ 16 2 zk_X14 o2 (by decide) q829 (Or.inl rfl) rfl rfl (by cases (f) <;> rfl) (by cases (f) <;> rfl) (Nat.le_of_ble_eq_true rfl) rfl dX13_init_13 rfl ?_
  obtain ⟨M3, eM3⟩ : ∃ z9 : zMap, zup M2 a (.inr (14, [.ref (mm), .ref (u), va_rf (f), .ref (u), .int (iI (0)), .ref (u)]) : va_E) = z9 := ⟨_, rfl⟩
  rw [eM3]
  have o3 : M3 a = some (.inr (14, [.ref (mm), .ref (u), va_rf (f), .ref (u), .int (iI (0)), .ref (u)])) := eM3 ▸ zup_s
  exact z_vret C dX13_init_16 (Nat.le_of_ble_eq_true rfl) (Nat.le_of_ble_eq_true rfl) ⟨rfl, (congrArg (fun M9 => zP θ M9 N) (by rw [← eM3, ← eM2, ← eM1] <;> simp only [zup_up]))⟩
set_option maxRecDepth 100000 in
theorem k14_init_14 {l : Launch} {θ : zTh} {M N : zMap} (hT : zTb θ) (a : Nat) (u : Nat) (mm : Nat) (f : Option Nat) (i : Int) (r_i : inR i) (hM : M a = some (.inr (14, [.null, .null, .null, .null, .int (iI (0)), .null]))) : ZM θ l yX14_init cX14_init 5 none ⟨3, 0, 0, 85⟩ [.ref (a), .ref (u), .ref (mm), va_rf (f), .int (iI (i))] (zP θ M N) (zFn none (zP θ (zup M a (.inr (14, [.ref (mm), .ref (u), va_rf (f), .ref (u), .int (iI (i)), .ref (u)]))) N)) := by
  refine z_start (own := RX14) (nm := "<init>") pnX14 rfl rfl (by cases (f) <;> exact Nat.le_of_ble_eq_true rfl) ?_
  intro κ hκ hκl C
  refine z_as (lv' := [(0, .ref (a)), (1, .ref (u)), (2, .ref (mm)), (3, va_rf (f)), (4, .int (iI (i)))]) rfl (by cases (f) <;> rfl) rfl ?_
  change Z κ (zP θ M N) 0 0 0 [(0, .ref (a)), (1, .ref (u)), (2, .ref (mm)), (3, va_rf (f)), (4, .int (iI (i)))] []
  refine z_aload_n C 1 0 dX14_init_0 rfl rfl ?_
  refine z_aload_n C 2 1 dX14_init_1 rfl rfl ?_
  refine z_putF (fs' := [.null, .null, .null, .null, .int (iI (0)), .ref (u)]) C hκ 5 5 zk_X14 hM (by decide) q847 (Or.inl rfl) rfl rfl rfl rfl (Nat.le_of_ble_eq_true rfl) rfl dX14_init_2 rfl ?_
  obtain ⟨M1, eM1⟩ : ∃ z9 : zMap, zup M a (.inr (14, [.null, .null, .null, .null, .int (iI (0)), .ref (u)]) : va_E) = z9 := ⟨_, rfl⟩
  rw [eM1]
  have o1 : M1 a = some (.inr (14, [.null, .null, .null, .null, .int (iI (0)), .ref (u)])) := eM1 ▸ zup_s
  refine z_aload_n C 6 0 dX14_init_5 rfl rfl ?_
  refine z_aload_n C 7 1 dX14_init_6 rfl rfl ?_
  refine z_aload_n C 8 2 dX14_init_7 rfl rfl ?_
  refine z_aload_nq C 9 3 dX14_init_8 rfl rfl ?_
  refine z_callI (As := [.ref (u), .ref (mm), va_rf (f)]) (rest := []) C hκ hκl 12 (k13_init_14 hT (a) (u) (mm) (f) o1) dX14_init_9 q845 q826 q107 q827 znX13_init rfl (Nat.le_of_ble_eq_true rfl) (Nat.le_of_ble_eq_true rfl) (Nat.le_of_ble_eq_true rfl) (Nat.le_of_ble_eq_true rfl) rfl (Nat.le_of_ble_eq_true rfl) rfl (fun v9 Q9 h9 => ?_)
  obtain ⟨rfl, rfl⟩ := h9
  obtain ⟨M2, eM2⟩ : ∃ z9 : zMap, zup M1 a (.inr (14, [.ref (mm), .ref (u), va_rf (f), .ref (u), .int (iI (0)), .ref (u)]) : va_E) = z9 := ⟨_, rfl⟩
  rw [eM2]
  have o2 : M2 a = some (.inr (14, [.ref (mm), .ref (u), va_rf (f), .ref (u), .int (iI (0)), .ref (u)])) := eM2 ▸ zup_s
  refine z_as (st' := []) rfl rfl rfl ?_
  refine z_aload_n C 13 0 dX14_init_12 rfl rfl ?_
  refine z_iload C 15 4 dX14_init_13 rfl rfl ?_
  refine z_putF (fs' := [.ref (mm), .ref (u), va_rf (f), .ref (u), .int (iI (i)), .ref (u)]) C hκ 18 4 zk_X14 o2 (by decide) q846 (Or.inl rfl) rfl rfl rfl rfl (Nat.le_of_ble_eq_true rfl) rfl dX14_init_15 rfl ?_
  obtain ⟨M3, eM3⟩ : ∃ z9 : zMap, zup M2 a (.inr (14, [.ref (mm), .ref (u), va_rf (f), .ref (u), .int (iI (i)), .ref (u)]) : va_E) = z9 := ⟨_, rfl⟩
  rw [eM3]
  have o3 : M3 a = some (.inr (14, [.ref (mm), .ref (u), va_rf (f), .ref (u), .int (iI (i)), .ref (u)])) := eM3 ▸ zup_s
  exact z_vret C dX14_init_18 (Nat.le_of_ble_eq_true rfl) (Nat.le_of_ble_eq_true rfl) ⟨rfl, (congrArg (fun M9 => zP θ M9 N) (by rw [← eM3, ← eM2, ← eM1] <;> simp only [zup_up]))⟩
set_option maxRecDepth 100000 in
theorem k10_init_17 {l : Launch} {θ : zTh} {M N : zMap} (hT : zTb θ) (a : Nat) (u : Nat) (mm : Nat)  (hM : M a = some (.inr (17, [.null, .null, .int (iI (0)), .ref (u), .int (iI (0)), .ref (u)]))) : ZM θ l yX10_init cX10_init 3 none ⟨1, 0, 0, 40⟩ [.ref (a), .ref (u), .ref (mm)] (zP θ M N) (zFn none (zP θ (zup M a (.inr (17, [.ref (mm), .ref (u), .int (iI (0)), .ref (u), .int (iI (0)), .ref (u)]))) N)) := by
  refine z_start (own := RX10) (nm := "<init>") pnX10 rfl rfl (Nat.le_of_ble_eq_true rfl) ?_
  intro κ hκ hκl C
  change Z κ (zP θ M N) 0 0 0 [(0, .ref (a)), (1, .ref (u)), (2, .ref (mm))] []
  refine z_aload_n C 1 0 dX10_init_0 rfl rfl ?_
  refine z_aload_n C 2 1 dX10_init_1 rfl rfl ?_
  refine z_putF (fs' := [.null, .ref (u), .int (iI (0)), .ref (u), .int (iI (0)), .ref (u)]) C hκ 5 1 zk_X17 hM (by decide) q779 (Or.inl rfl) rfl rfl rfl rfl (Nat.le_of_ble_eq_true rfl) rfl dX10_init_2 rfl ?_
  obtain ⟨M1, eM1⟩ : ∃ z9 : zMap, zup M a (.inr (17, [.null, .ref (u), .int (iI (0)), .ref (u), .int (iI (0)), .ref (u)]) : va_E) = z9 := ⟨_, rfl⟩
  rw [eM1]
  have o1 : M1 a = some (.inr (17, [.null, .ref (u), .int (iI (0)), .ref (u), .int (iI (0)), .ref (u)])) := eM1 ▸ zup_s
  refine z_aload_n C 6 0 dX10_init_5 rfl rfl ?_
  refine z_objInit C 9 dX10_init_6 q770 q145 q146 (Nat.le_of_ble_eq_true rfl) (Nat.le_of_ble_eq_true rfl) rfl ?_
  refine z_aload_n C 10 0 dX10_init_9 rfl rfl ?_
  refine z_aload_n C 11 2 dX10_init_10 rfl rfl ?_
  refine z_putF (fs' := [.ref (mm), .ref (u), .int (iI (0)), .ref (u), .int (iI (0)), .ref (u)]) C hκ 14 0 zk_X17 o1 (by decide) q772 (Or.inl rfl) rfl rfl rfl rfl (Nat.le_of_ble_eq_true rfl) rfl dX10_init_11 rfl ?_
  obtain ⟨M2, eM2⟩ : ∃ z9 : zMap, zup M1 a (.inr (17, [.ref (mm), .ref (u), .int (iI (0)), .ref (u), .int (iI (0)), .ref (u)]) : va_E) = z9 := ⟨_, rfl⟩
  rw [eM2]
  have o2 : M2 a = some (.inr (17, [.ref (mm), .ref (u), .int (iI (0)), .ref (u), .int (iI (0)), .ref (u)])) := eM2 ▸ zup_s
  exact z_vret C dX10_init_14 (Nat.le_of_ble_eq_true rfl) (Nat.le_of_ble_eq_true rfl) ⟨rfl, (congrArg (fun M9 => zP θ M9 N) (by rw [← eM2, ← eM1] <;> simp only [zup_up]))⟩
set_option maxRecDepth 100000 in
theorem k12_init_17 {l : Launch} {θ : zTh} {M N : zMap} (hT : zTb θ) (a : Nat) (u : Nat) (mm : Nat) (i : Int) (r_i : inR i) (hM : M a = some (.inr (17, [.null, .null, .int (iI (0)), .null, .int (iI (0)), .ref (u)]))) : ZM θ l yX12_init cX12_init 4 none ⟨2, 0, 0, 62⟩ [.ref (a), .ref (u), .ref (mm), .int (iI (i))] (zP θ M N) (zFn none (zP θ (zup M a (.inr (17, [.ref (mm), .ref (u), .int (iI (i)), .ref (u), .int (iI (0)), .ref (u)]))) N)) := by
  refine z_start (own := RX12) (nm := "<init>") pnX12 rfl rfl (Nat.le_of_ble_eq_true rfl) ?_
  intro κ hκ hκl C
  change Z κ (zP θ M N) 0 0 0 [(0, .ref (a)), (1, .ref (u)), (2, .ref (mm)), (3, .int (iI (i)))] []
  refine z_aload_n C 1 0 dX12_init_0 rfl rfl ?_
  refine z_aload_n C 2 1 dX12_init_1 rfl rfl ?_
  refine z_putF (fs' := [.null, .null, .int (iI (0)), .ref (u), .int (iI (0)), .ref (u)]) C hκ 5 3 zk_X17 hM (by decide) q815 (Or.inl rfl) rfl rfl rfl rfl (Nat.le_of_ble_eq_true rfl) rfl dX12_init_2 rfl ?_
  obtain ⟨M1, eM1⟩ : ∃ z9 : zMap, zup M a (.inr (17, [.null, .null, .int (iI (0)), .ref (u), .int (iI (0)), .ref (u)]) : va_E) = z9 := ⟨_, rfl⟩
  rw [eM1]
  have o1 : M1 a = some (.inr (17, [.null, .null, .int (iI (0)), .ref (u), .int (iI (0)), .ref (u)])) := eM1 ▸ zup_s
  refine z_aload_n C 6 0 dX12_init_5 rfl rfl ?_
  refine z_aload_n C 7 1 dX12_init_6 rfl rfl ?_
  refine z_aload_n C 8 2 dX12_init_7 rfl rfl ?_
  refine z_callI (As := [.ref (u), .ref (mm)]) (rest := []) C hκ hκl 11 (k10_init_17 hT (a) (u) (mm) o1) dX12_init_8 q809 q768 q104 q769 znX10_init rfl (Nat.le_of_ble_eq_true rfl) (Nat.le_of_ble_eq_true rfl) (Nat.le_of_ble_eq_true rfl) (Nat.le_of_ble_eq_true rfl) rfl (Nat.le_of_ble_eq_true rfl) rfl (fun v9 Q9 h9 => ?_)
  obtain ⟨rfl, rfl⟩ := h9
  obtain ⟨M2, eM2⟩ : ∃ z9 : zMap, zup M1 a (.inr (17, [.ref (mm), .ref (u), .int (iI (0)), .ref (u), .int (iI (0)), .ref (u)]) : va_E) = z9 := ⟨_, rfl⟩
  rw [eM2]
  have o2 : M2 a = some (.inr (17, [.ref (mm), .ref (u), .int (iI (0)), .ref (u), .int (iI (0)), .ref (u)])) := eM2 ▸ zup_s
  refine z_as (st' := []) rfl rfl rfl ?_
  refine z_aload_n C 12 0 dX12_init_11 rfl rfl ?_
  refine z_iload_n C 13 3 dX12_init_12 rfl rfl ?_
  refine z_putF (fs' := [.ref (mm), .ref (u), .int (iI (i)), .ref (u), .int (iI (0)), .ref (u)]) C hκ 16 2 zk_X17 o2 (by decide) q810 (Or.inl rfl) rfl rfl rfl rfl (Nat.le_of_ble_eq_true rfl) rfl dX12_init_13 rfl ?_
  obtain ⟨M3, eM3⟩ : ∃ z9 : zMap, zup M2 a (.inr (17, [.ref (mm), .ref (u), .int (iI (i)), .ref (u), .int (iI (0)), .ref (u)]) : va_E) = z9 := ⟨_, rfl⟩
  rw [eM3]
  have o3 : M3 a = some (.inr (17, [.ref (mm), .ref (u), .int (iI (i)), .ref (u), .int (iI (0)), .ref (u)])) := eM3 ▸ zup_s
  exact z_vret C dX12_init_16 (Nat.le_of_ble_eq_true rfl) (Nat.le_of_ble_eq_true rfl) ⟨rfl, (congrArg (fun M9 => zP θ M9 N) (by rw [← eM3, ← eM2, ← eM1] <;> simp only [zup_up]))⟩
set_option maxRecDepth 100000 in
theorem k17_init_17 {l : Launch} {θ : zTh} {M N : zMap} (hT : zTb θ) (a : Nat) (u : Nat) (mm : Nat) (i : Int) (j : Int) (r_i : inR i) (r_j : inR j) (hM : M a = some (.inr (17, [.null, .null, .int (iI (0)), .null, .int (iI (0)), .null]))) : ZM θ l yX17_init cX17_init 5 none ⟨3, 0, 0, 85⟩ [.ref (a), .ref (u), .ref (mm), .int (iI (i)), .int (iI (j))] (zP θ M N) (zFn none (zP θ (zup M a (.inr (17, [.ref (mm), .ref (u), .int (iI (i)), .ref (u), .int (iI (j)), .ref (u)]))) N)) := by
  refine z_start (own := RX17) (nm := "<init>") pnX17 rfl rfl (Nat.le_of_ble_eq_true rfl) ?_
  intro κ hκ hκl C
  change Z κ (zP θ M N) 0 0 0 [(0, .ref (a)), (1, .ref (u)), (2, .ref (mm)), (3, .int (iI (i))), (4, .int (iI (j)))] []
  refine z_aload_n C 1 0 dX17_init_0 rfl rfl ?_
  refine z_aload_n C 2 1 dX17_init_1 rfl rfl ?_
  refine z_putF (fs' := [.null, .null, .int (iI (0)), .null, .int (iI (0)), .ref (u)]) C hκ 5 5 zk_X17 hM (by decide) q896 (Or.inl rfl) rfl rfl rfl rfl (Nat.le_of_ble_eq_true rfl) rfl dX17_init_2 rfl ?_
  obtain ⟨M1, eM1⟩ : ∃ z9 : zMap, zup M a (.inr (17, [.null, .null, .int (iI (0)), .null, .int (iI (0)), .ref (u)]) : va_E) = z9 := ⟨_, rfl⟩
  rw [eM1]
  have o1 : M1 a = some (.inr (17, [.null, .null, .int (iI (0)), .null, .int (iI (0)), .ref (u)])) := eM1 ▸ zup_s
  refine z_aload_n C 6 0 dX17_init_5 rfl rfl ?_
  refine z_aload_n C 7 1 dX17_init_6 rfl rfl ?_
  refine z_aload_n C 8 2 dX17_init_7 rfl rfl ?_
  refine z_iload_n C 9 3 dX17_init_8 rfl rfl ?_
  refine z_callI (As := [.ref (u), .ref (mm), .int (iI (i))]) (rest := []) C hκ hκl 12 (k12_init_17 hT (a) (u) (mm) (i) r_i o1) dX17_init_9 q894 q807 q106 q808 znX12_init rfl (Nat.le_of_ble_eq_true rfl) (Nat.le_of_ble_eq_true rfl) (Nat.le_of_ble_eq_true rfl) (Nat.le_of_ble_eq_true rfl) rfl (Nat.le_of_ble_eq_true rfl) rfl (fun v9 Q9 h9 => ?_)
  obtain ⟨rfl, rfl⟩ := h9
  obtain ⟨M2, eM2⟩ : ∃ z9 : zMap, zup M1 a (.inr (17, [.ref (mm), .ref (u), .int (iI (i)), .ref (u), .int (iI (0)), .ref (u)]) : va_E) = z9 := ⟨_, rfl⟩
  rw [eM2]
  have o2 : M2 a = some (.inr (17, [.ref (mm), .ref (u), .int (iI (i)), .ref (u), .int (iI (0)), .ref (u)])) := eM2 ▸ zup_s
  refine z_as (st' := []) rfl rfl rfl ?_
  refine z_aload_n C 13 0 dX17_init_12 rfl rfl ?_
  refine z_iload C 15 4 dX17_init_13 rfl rfl ?_
  refine z_putF (fs' := [.ref (mm), .ref (u), .int (iI (i)), .ref (u), .int (iI (j)), .ref (u)]) C hκ 18 4 zk_X17 o2 (by decide) q895 (Or.inl rfl) rfl rfl rfl rfl (Nat.le_of_ble_eq_true rfl) rfl dX17_init_15 rfl ?_
  obtain ⟨M3, eM3⟩ : ∃ z9 : zMap, zup M2 a (.inr (17, [.ref (mm), .ref (u), .int (iI (i)), .ref (u), .int (iI (j)), .ref (u)]) : va_E) = z9 := ⟨_, rfl⟩
  rw [eM3]
  have o3 : M3 a = some (.inr (17, [.ref (mm), .ref (u), .int (iI (i)), .ref (u), .int (iI (j)), .ref (u)])) := eM3 ▸ zup_s
  exact z_vret C dX17_init_18 (Nat.le_of_ble_eq_true rfl) (Nat.le_of_ble_eq_true rfl) ⟨rfl, (congrArg (fun M9 => zP θ M9 N) (by rw [← eM3, ← eM2, ← eM1] <;> simp only [zup_up]))⟩
set_option maxRecDepth 100000 in
theorem k10_init_21 {l : Launch} {θ : zTh} {M N : zMap} (hT : zTb θ) (a : Nat) (u : Nat) (mm : Nat)  (hM : M a = some (.inr (21, [.null, .null, .int (iI (0)), .ref (u), .int (iI (0)), .ref (u)]))) : ZM θ l yX10_init cX10_init 3 none ⟨1, 0, 0, 40⟩ [.ref (a), .ref (u), .ref (mm)] (zP θ M N) (zFn none (zP θ (zup M a (.inr (21, [.ref (mm), .ref (u), .int (iI (0)), .ref (u), .int (iI (0)), .ref (u)]))) N)) := by
  refine z_start (own := RX10) (nm := "<init>") pnX10 rfl rfl (Nat.le_of_ble_eq_true rfl) ?_
  intro κ hκ hκl C
  change Z κ (zP θ M N) 0 0 0 [(0, .ref (a)), (1, .ref (u)), (2, .ref (mm))] []
  refine z_aload_n C 1 0 dX10_init_0 rfl rfl ?_
  refine z_aload_n C 2 1 dX10_init_1 rfl rfl ?_
  refine z_putF (fs' := [.null, .ref (u), .int (iI (0)), .ref (u), .int (iI (0)), .ref (u)]) C hκ 5 1 zk_X21 hM (by decide) q779 (Or.inl rfl) rfl rfl rfl rfl (Nat.le_of_ble_eq_true rfl) rfl dX10_init_2 rfl ?_
  obtain ⟨M1, eM1⟩ : ∃ z9 : zMap, zup M a (.inr (21, [.null, .ref (u), .int (iI (0)), .ref (u), .int (iI (0)), .ref (u)]) : va_E) = z9 := ⟨_, rfl⟩
  rw [eM1]
  have o1 : M1 a = some (.inr (21, [.null, .ref (u), .int (iI (0)), .ref (u), .int (iI (0)), .ref (u)])) := eM1 ▸ zup_s
  refine z_aload_n C 6 0 dX10_init_5 rfl rfl ?_
  refine z_objInit C 9 dX10_init_6 q770 q145 q146 (Nat.le_of_ble_eq_true rfl) (Nat.le_of_ble_eq_true rfl) rfl ?_
  refine z_aload_n C 10 0 dX10_init_9 rfl rfl ?_
  refine z_aload_n C 11 2 dX10_init_10 rfl rfl ?_
  refine z_putF (fs' := [.ref (mm), .ref (u), .int (iI (0)), .ref (u), .int (iI (0)), .ref (u)]) C hκ 14 0 zk_X21 o1 (by decide) q772 (Or.inl rfl) rfl rfl rfl rfl (Nat.le_of_ble_eq_true rfl) rfl dX10_init_11 rfl ?_
  obtain ⟨M2, eM2⟩ : ∃ z9 : zMap, zup M1 a (.inr (21, [.ref (mm), .ref (u), .int (iI (0)), .ref (u), .int (iI (0)), .ref (u)]) : va_E) = z9 := ⟨_, rfl⟩
  rw [eM2]
  have o2 : M2 a = some (.inr (21, [.ref (mm), .ref (u), .int (iI (0)), .ref (u), .int (iI (0)), .ref (u)])) := eM2 ▸ zup_s
  exact z_vret C dX10_init_14 (Nat.le_of_ble_eq_true rfl) (Nat.le_of_ble_eq_true rfl) ⟨rfl, (congrArg (fun M9 => zP θ M9 N) (by rw [← eM2, ← eM1] <;> simp only [zup_up]))⟩
set_option maxRecDepth 100000 in
theorem k12_init_21 {l : Launch} {θ : zTh} {M N : zMap} (hT : zTb θ) (a : Nat) (u : Nat) (mm : Nat) (i : Int) (r_i : inR i) (hM : M a = some (.inr (21, [.null, .null, .int (iI (0)), .null, .int (iI (0)), .ref (u)]))) : ZM θ l yX12_init cX12_init 4 none ⟨2, 0, 0, 62⟩ [.ref (a), .ref (u), .ref (mm), .int (iI (i))] (zP θ M N) (zFn none (zP θ (zup M a (.inr (21, [.ref (mm), .ref (u), .int (iI (i)), .ref (u), .int (iI (0)), .ref (u)]))) N)) := by
  refine z_start (own := RX12) (nm := "<init>") pnX12 rfl rfl (Nat.le_of_ble_eq_true rfl) ?_
  intro κ hκ hκl C
  change Z κ (zP θ M N) 0 0 0 [(0, .ref (a)), (1, .ref (u)), (2, .ref (mm)), (3, .int (iI (i)))] []
  refine z_aload_n C 1 0 dX12_init_0 rfl rfl ?_
  refine z_aload_n C 2 1 dX12_init_1 rfl rfl ?_
  refine z_putF (fs' := [.null, .null, .int (iI (0)), .ref (u), .int (iI (0)), .ref (u)]) C hκ 5 3 zk_X21 hM (by decide) q815 (Or.inl rfl) rfl rfl rfl rfl (Nat.le_of_ble_eq_true rfl) rfl dX12_init_2 rfl ?_
  obtain ⟨M1, eM1⟩ : ∃ z9 : zMap, zup M a (.inr (21, [.null, .null, .int (iI (0)), .ref (u), .int (iI (0)), .ref (u)]) : va_E) = z9 := ⟨_, rfl⟩
  rw [eM1]
  have o1 : M1 a = some (.inr (21, [.null, .null, .int (iI (0)), .ref (u), .int (iI (0)), .ref (u)])) := eM1 ▸ zup_s
  refine z_aload_n C 6 0 dX12_init_5 rfl rfl ?_
  refine z_aload_n C 7 1 dX12_init_6 rfl rfl ?_
  refine z_aload_n C 8 2 dX12_init_7 rfl rfl ?_
  refine z_callI (As := [.ref (u), .ref (mm)]) (rest := []) C hκ hκl 11 (k10_init_21 hT (a) (u) (mm) o1) dX12_init_8 q809 q768 q104 q769 znX10_init rfl (Nat.le_of_ble_eq_true rfl) (Nat.le_of_ble_eq_true rfl) (Nat.le_of_ble_eq_true rfl) (Nat.le_of_ble_eq_true rfl) rfl (Nat.le_of_ble_eq_true rfl) rfl (fun v9 Q9 h9 => ?_)
  obtain ⟨rfl, rfl⟩ := h9
  obtain ⟨M2, eM2⟩ : ∃ z9 : zMap, zup M1 a (.inr (21, [.ref (mm), .ref (u), .int (iI (0)), .ref (u), .int (iI (0)), .ref (u)]) : va_E) = z9 := ⟨_, rfl⟩
  rw [eM2]
  have o2 : M2 a = some (.inr (21, [.ref (mm), .ref (u), .int (iI (0)), .ref (u), .int (iI (0)), .ref (u)])) := eM2 ▸ zup_s
  refine z_as (st' := []) rfl rfl rfl ?_
  refine z_aload_n C 12 0 dX12_init_11 rfl rfl ?_
  refine z_iload_n C 13 3 dX12_init_12 rfl rfl ?_
  refine z_putF (fs' := [.ref (mm), .ref (u), .int (iI (i)), .ref (u), .int (iI (0)), .ref (u)]) C hκ 16 2 zk_X21 o2 (by decide) q810 (Or.inl rfl) rfl rfl rfl rfl (Nat.le_of_ble_eq_true rfl) rfl dX12_init_13 rfl ?_
  obtain ⟨M3, eM3⟩ : ∃ z9 : zMap, zup M2 a (.inr (21, [.ref (mm), .ref (u), .int (iI (i)), .ref (u), .int (iI (0)), .ref (u)]) : va_E) = z9 := ⟨_, rfl⟩
  rw [eM3]
  have o3 : M3 a = some (.inr (21, [.ref (mm), .ref (u), .int (iI (i)), .ref (u), .int (iI (0)), .ref (u)])) := eM3 ▸ zup_s
  exact z_vret C dX12_init_16 (Nat.le_of_ble_eq_true rfl) (Nat.le_of_ble_eq_true rfl) ⟨rfl, (congrArg (fun M9 => zP θ M9 N) (by rw [← eM3, ← eM2, ← eM1] <;> simp only [zup_up]))⟩
set_option maxRecDepth 100000 in
theorem k21_init_21 {l : Launch} {θ : zTh} {M N : zMap} (hT : zTb θ) (a : Nat) (u : Nat) (mm : Nat) (i : Int) (j : Int) (r_i : inR i) (r_j : inR j) (hM : M a = some (.inr (21, [.null, .null, .int (iI (0)), .null, .int (iI (0)), .null]))) : ZM θ l yX21_init cX21_init 5 none ⟨3, 0, 0, 85⟩ [.ref (a), .ref (u), .ref (mm), .int (iI (i)), .int (iI (j))] (zP θ M N) (zFn none (zP θ (zup M a (.inr (21, [.ref (mm), .ref (u), .int (iI (i)), .ref (u), .int (iI (j)), .ref (u)]))) N)) := by
  refine z_start (own := RX21) (nm := "<init>") pnX21 rfl rfl (Nat.le_of_ble_eq_true rfl) ?_
  intro κ hκ hκl C
  change Z κ (zP θ M N) 0 0 0 [(0, .ref (a)), (1, .ref (u)), (2, .ref (mm)), (3, .int (iI (i))), (4, .int (iI (j)))] []
  refine z_aload_n C 1 0 dX21_init_0 rfl rfl ?_
  refine z_aload_n C 2 1 dX21_init_1 rfl rfl ?_
  refine z_putF (fs' := [.null, .null, .int (iI (0)), .null, .int (iI (0)), .ref (u)]) C hκ 5 5 zk_X21 hM (by decide) q1002 (Or.inl rfl) rfl rfl rfl rfl (Nat.le_of_ble_eq_true rfl) rfl dX21_init_2 rfl ?_
  obtain ⟨M1, eM1⟩ : ∃ z9 : zMap, zup M a (.inr (21, [.null, .null, .int (iI (0)), .null, .int (iI (0)), .ref (u)]) : va_E) = z9 := ⟨_, rfl⟩
  rw [eM1]
  have o1 : M1 a = some (.inr (21, [.null, .null, .int (iI (0)), .null, .int (iI (0)), .ref (u)])) := eM1 ▸ zup_s
  refine z_aload_n C 6 0 dX21_init_5 rfl rfl ?_
  refine z_aload_n C 7 1 dX21_init_6 rfl rfl ?_
  refine z_aload_n C 8 2 dX21_init_7 rfl rfl ?_
  refine z_iload_n C 9 3 dX21_init_8 rfl rfl ?_
  refine z_callI (As := [.ref (u), .ref (mm), .int (iI (i))]) (rest := []) C hκ hκl 12 (k12_init_21 hT (a) (u) (mm) (i) r_i o1) dX21_init_9 q1000 q807 q106 q808 znX12_init rfl (Nat.le_of_ble_eq_true rfl) (Nat.le_of_ble_eq_true rfl) (Nat.le_of_ble_eq_true rfl) (Nat.le_of_ble_eq_true rfl) rfl (Nat.le_of_ble_eq_true rfl) rfl (fun v9 Q9 h9 => ?_)
  obtain ⟨rfl, rfl⟩ := h9
  obtain ⟨M2, eM2⟩ : ∃ z9 : zMap, zup M1 a (.inr (21, [.ref (mm), .ref (u), .int (iI (i)), .ref (u), .int (iI (0)), .ref (u)]) : va_E) = z9 := ⟨_, rfl⟩
  rw [eM2]
  have o2 : M2 a = some (.inr (21, [.ref (mm), .ref (u), .int (iI (i)), .ref (u), .int (iI (0)), .ref (u)])) := eM2 ▸ zup_s
  refine z_as (st' := []) rfl rfl rfl ?_
  refine z_aload_n C 13 0 dX21_init_12 rfl rfl ?_
  refine z_iload C 15 4 dX21_init_13 rfl rfl ?_
  refine z_putF (fs' := [.ref (mm), .ref (u), .int (iI (i)), .ref (u), .int (iI (j)), .ref (u)]) C hκ 18 4 zk_X21 o2 (by decide) q1001 (Or.inl rfl) rfl rfl rfl rfl (Nat.le_of_ble_eq_true rfl) rfl dX21_init_15 rfl ?_
  obtain ⟨M3, eM3⟩ : ∃ z9 : zMap, zup M2 a (.inr (21, [.ref (mm), .ref (u), .int (iI (i)), .ref (u), .int (iI (j)), .ref (u)]) : va_E) = z9 := ⟨_, rfl⟩
  rw [eM3]
  have o3 : M3 a = some (.inr (21, [.ref (mm), .ref (u), .int (iI (i)), .ref (u), .int (iI (j)), .ref (u)])) := eM3 ▸ zup_s
  exact z_vret C dX21_init_18 (Nat.le_of_ble_eq_true rfl) (Nat.le_of_ble_eq_true rfl) ⟨rfl, (congrArg (fun M9 => zP θ M9 N) (by rw [← eM3, ← eM2, ← eM1] <;> simp only [zup_up]))⟩
set_option maxRecDepth 100000 in
theorem k10_init_18 {l : Launch} {θ : zTh} {M N : zMap} (hT : zTb θ) (a : Nat) (u : Nat) (mm : Nat)  (hM : M a = some (.inr (18, [.null, .null, .null, .ref (u), .ref (u)]))) : ZM θ l yX10_init cX10_init 3 none ⟨1, 0, 0, 40⟩ [.ref (a), .ref (u), .ref (mm)] (zP θ M N) (zFn none (zP θ (zup M a (.inr (18, [.ref (mm), .ref (u), .null, .ref (u), .ref (u)]))) N)) := by
  refine z_start (own := RX10) (nm := "<init>") pnX10 rfl rfl (Nat.le_of_ble_eq_true rfl) ?_
  intro κ hκ hκl C
  change Z κ (zP θ M N) 0 0 0 [(0, .ref (a)), (1, .ref (u)), (2, .ref (mm))] []
  refine z_aload_n C 1 0 dX10_init_0 rfl rfl ?_
  refine z_aload_n C 2 1 dX10_init_1 rfl rfl ?_
  refine z_putF (fs' := [.null, .ref (u), .null, .ref (u), .ref (u)]) C hκ 5 1 zk_X18 hM (by decide) q779 (Or.inl rfl) rfl rfl rfl rfl (Nat.le_of_ble_eq_true rfl) rfl dX10_init_2 rfl ?_
  obtain ⟨M1, eM1⟩ : ∃ z9 : zMap, zup M a (.inr (18, [.null, .ref (u), .null, .ref (u), .ref (u)]) : va_E) = z9 := ⟨_, rfl⟩
  rw [eM1]
  have o1 : M1 a = some (.inr (18, [.null, .ref (u), .null, .ref (u), .ref (u)])) := eM1 ▸ zup_s
  refine z_aload_n C 6 0 dX10_init_5 rfl rfl ?_
  refine z_objInit C 9 dX10_init_6 q770 q145 q146 (Nat.le_of_ble_eq_true rfl) (Nat.le_of_ble_eq_true rfl) rfl ?_
  refine z_aload_n C 10 0 dX10_init_9 rfl rfl ?_
  refine z_aload_n C 11 2 dX10_init_10 rfl rfl ?_
  refine z_putF (fs' := [.ref (mm), .ref (u), .null, .ref (u), .ref (u)]) C hκ 14 0 zk_X18 o1 (by decide) q772 (Or.inl rfl) rfl rfl rfl rfl (Nat.le_of_ble_eq_true rfl) rfl dX10_init_11 rfl ?_
  obtain ⟨M2, eM2⟩ : ∃ z9 : zMap, zup M1 a (.inr (18, [.ref (mm), .ref (u), .null, .ref (u), .ref (u)]) : va_E) = z9 := ⟨_, rfl⟩
  rw [eM2]
  have o2 : M2 a = some (.inr (18, [.ref (mm), .ref (u), .null, .ref (u), .ref (u)])) := eM2 ▸ zup_s
  exact z_vret C dX10_init_14 (Nat.le_of_ble_eq_true rfl) (Nat.le_of_ble_eq_true rfl) ⟨rfl, (congrArg (fun M9 => zP θ M9 N) (by rw [← eM2, ← eM1] <;> simp only [zup_up]))⟩
set_option maxRecDepth 100000 in
theorem k16_init_18 {l : Launch} {θ : zTh} {M N : zMap} (hT : zTb θ) (a : Nat) (u : Nat) (mm : Nat) (f : Option Nat)  (hM : M a = some (.inr (18, [.null, .null, .null, .null, .ref (u)]))) : ZM θ l yX16_init cX16_init 4 none ⟨2, 0, 0, 62⟩ [.ref (a), .ref (u), .ref (mm), va_rf (f)] (zP θ M N) (zFn none (zP θ (zup M a (.inr (18, [.ref (mm), .ref (u), va_rf (f), .ref (u), .ref (u)]))) N)) := by
  refine z_start (own := RX16) (nm := "<init>") pnX16 rfl rfl (by cases (f) <;> exact Nat.le_of_ble_eq_true rfl) ?_
  intro κ hκ hκl C
  refine z_as (lv' := [(0, .ref (a)), (1, .ref (u)), (2, .ref (mm)), (3, va_rf (f))]) rfl (by cases (f) <;> rfl) rfl ?_
  change Z κ (zP θ M N) 0 0 0 [(0, .ref (a)), (1, .ref (u)), (2, .ref (mm)), (3, va_rf (f))] []
  refine z_aload_n C 1 0 dX16_init_0 rfl rfl ?_
  refine z_aload_n C 2 1 dX16_init_1 rfl rfl ?_
  refine z_putF (fs' := [.null, .null, .null, .ref (u), .ref (u)]) C hκ 5 3 zk_X18 hM (by decide) q881 (Or.inl rfl) rfl rfl rfl rfl (Nat.le_of_ble_eq_true rfl) rfl dX16_init_2 rfl ?_
  obtain ⟨M1, eM1⟩ : ∃ z9 : zMap, zup M a (.inr (18, [.null, .null, .null, .ref (u), .ref (u)]) : va_E) = z9 := ⟨_, rfl⟩
  rw [eM1]
  have o1 : M1 a = some (.inr (18, [.null, .null, .null, .ref (u), .ref (u)])) := eM1 ▸ zup_s
  refine z_aload_n C 6 0 dX16_init_5 rfl rfl ?_
  refine z_aload_n C 7 1 dX16_init_6 rfl rfl ?_
  refine z_aload_n C 8 2 dX16_init_7 rfl rfl ?_
  refine z_callI (As := [.ref (u), .ref (mm)]) (rest := []) C hκ hκl 11 (k10_init_18 hT (a) (u) (mm) o1) dX16_init_8 q877 q768 q104 q769 znX10_init rfl (Nat.le_of_ble_eq_true rfl) (Nat.le_of_ble_eq_true rfl) (Nat.le_of_ble_eq_true rfl) (Nat.le_of_ble_eq_true rfl) rfl (Nat.le_of_ble_eq_true rfl) rfl (fun v9 Q9 h9 => ?_)
  obtain ⟨rfl, rfl⟩ := h9
  obtain ⟨M2, eM2⟩ : ∃ z9 : zMap, zup M1 a (.inr (18, [.ref (mm), .ref (u), .null, .ref (u), .ref (u)]) : va_E) = z9 := ⟨_, rfl⟩
  rw [eM2]
  have o2 : M2 a = some (.inr (18, [.ref (mm), .ref (u), .null, .ref (u), .ref (u)])) := eM2 ▸ zup_s
  refine z_as (st' := []) rfl rfl rfl ?_
  refine z_aload_n C 12 0 dX16_init_11 rfl rfl ?_
  refine z_aload_nq C 13 3 dX16_init_12 rfl rfl ?_
  refine z_putF (fs' := [.ref (mm), .ref (u), va_rf (f), .ref (u), .ref (u)]) C hκ 16 2 zk_X18 o2 (by decide) q878 (Or.inl rfl) rfl rfl (by cases (f) <;> rfl) (by cases (f) <;> rfl) (Nat.le_of_ble_eq_true rfl) rfl dX16_init_13 rfl ?_
  obtain ⟨M3, eM3⟩ : ∃ z9 : zMap, zup M2 a (.inr (18, [.ref (mm), .ref (u), va_rf (f), .ref (u), .ref (u)]) : va_E) = z9 := ⟨_, rfl⟩
  rw [eM3]
  have o3 : M3 a = some (.inr (18, [.ref (mm), .ref (u), va_rf (f), .ref (u), .ref (u)])) := eM3 ▸ zup_s
  exact z_vret C dX16_init_16 (Nat.le_of_ble_eq_true rfl) (Nat.le_of_ble_eq_true rfl) ⟨rfl, (congrArg (fun M9 => zP θ M9 N) (by rw [← eM3, ← eM2, ← eM1] <;> simp only [zup_up]))⟩
set_option maxRecDepth 100000 in
theorem k18_init_18 {l : Launch} {θ : zTh} {M N : zMap} (hT : zTb θ) (a : Nat) (u : Nat) (mm : Nat) (f : Option Nat)  (hM : M a = some (.inr (18, [.null, .null, .null, .null, .null]))) : ZM θ l yX18_init cX18_init 4 none ⟨3, 0, 0, 85⟩ [.ref (a), .ref (u), .ref (mm), va_rf (f)] (zP θ M N) (zFn none (zP θ (zup M a (.inr (18, [.ref (mm), .ref (u), va_rf (f), .ref (u), .ref (u)]))) N)) := by
  refine z_start (own := RX18) (nm := "<init>") pnX18 rfl rfl (by cases (f) <;> exact Nat.le_of_ble_eq_true rfl) ?_
  intro κ hκ hκl C
  refine z_as (lv' := [(0, .ref (a)), (1, .ref (u)), (2, .ref (mm)), (3, va_rf (f))]) rfl (by cases (f) <;> rfl) rfl ?_
  change Z κ (zP θ M N) 0 0 0 [(0, .ref (a)), (1, .ref (u)), (2, .ref (mm)), (3, va_rf (f))] []
  refine z_aload_n C 1 0 dX18_init_0 rfl rfl ?_
  refine z_aload_n C 2 1 dX18_init_1 rfl rfl ?_
  refine z_putF (fs' := [.null, .null, .null, .null, .ref (u)]) C hκ 5 4 zk_X18 hM (by decide) q987 (Or.inl rfl) rfl rfl rfl rfl (Nat.le_of_ble_eq_true rfl) rfl dX18_init_2 rfl ?_
  obtain ⟨M1, eM1⟩ : ∃ z9 : zMap, zup M a (.inr (18, [.null, .null, .null, .null, .ref (u)]) : va_E) = z9 := ⟨_, rfl⟩
  rw [eM1]
  have o1 : M1 a = some (.inr (18, [.null, .null, .null, .null, .ref (u)])) := eM1 ▸ zup_s
  refine z_aload_n C 6 0 dX18_init_5 rfl rfl ?_
  refine z_aload_n C 7 1 dX18_init_6 rfl rfl ?_
  refine z_aload_n C 8 2 dX18_init_7 rfl rfl ?_
  refine z_aload_nq C 9 3 dX18_init_8 rfl rfl ?_
  refine z_callI (As := [.ref (u), .ref (mm), va_rf (f)]) (rest := []) C hκ hκl 12 (k16_init_18 hT (a) (u) (mm) (f) o1) dX18_init_9 q986 q875 q110 q876 znX16_init rfl (Nat.le_of_ble_eq_true rfl) (Nat.le_of_ble_eq_true rfl) (Nat.le_of_ble_eq_true rfl) (Nat.le_of_ble_eq_true rfl) rfl (Nat.le_of_ble_eq_true rfl) rfl (fun v9 Q9 h9 => ?_)
  obtain ⟨rfl, rfl⟩ := h9
  obtain ⟨M2, eM2⟩ : ∃ z9 : zMap, zup M1 a (.inr (18, [.ref (mm), .ref (u), va_rf (f), .ref (u), .ref (u)]) : va_E) = z9 := ⟨_, rfl⟩
  rw [eM2]
  have o2 : M2 a = some (.inr (18, [.ref (mm), .ref (u), va_rf (f), .ref (u), .ref (u)])) := eM2 ▸ zup_s
  refine z_as (st' := []) rfl rfl rfl ?_
  exact z_vret C dX18_init_12 (Nat.le_of_ble_eq_true rfl) (Nat.le_of_ble_eq_true rfl) ⟨rfl, (congrArg (fun M9 => zP θ M9 N) (by rw [← eM2, ← eM1] <;> simp only [zup_up]))⟩
