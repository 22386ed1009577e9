/-! ===== refusals: what is thrown, by its kind ===== -/
def xRf (c : Int) : va_E := .inr (25, [.null, .null, .null, .null, .null, .int (iI 0), .int (iI c)])
def xEz (E : String) (c : Int) : Prop := (c = 1 ∧ E = "java/lang/NullPointerException") ∨ (c = 2 ∧ E = "java/lang/IllegalArgumentException") ∨ (c = 3 ∧ E = "java/lang/ArrayIndexOutOfBoundsException") ∨ (c = 4 ∧ E = "java/lang/ArrayStoreException") ∨ (c = 5 ∧ E = "java/lang/NegativeArraySizeException") ∨ (c = 8 ∧ E = "java/lang/ClassCastException")
def xEr (M : zMap) (b : Nat) (E : String) (c : Int) : Prop := E = "ReflectMirror$Refusal" ∧ M b = some (xRf c)
def xEx (M : zMap) (b : Nat) (E : String) (c : Int) : Prop := xEr M b E c ∨ xEz E c
theorem xEr.ge {M M' : zMap} {b : Nat} {E : String} {c : Int} (h : xEr M b E c) (hg : zGe M M') : xEr M' b E c := ⟨h.1, hg _ _ h.2⟩
theorem xEx.ge {M M' : zMap} {b : Nat} {E : String} {c : Int} (h : xEx M b E c) (hg : zGe M M') : xEx M' b E c := h.imp (fun x => x.ge hg) id
section ZGs
variable {κ : zK} {own nm : String} {cc : ByteArray} {nL : Nat} {ret : Option FieldType} {rm : Room} {P : Option Value → (Heap → Prop) → Prop} {Pic : Heap → Prop} {n k pc : Nat} {lv : List (Nat × Value)} {st rest : List Value} {θ : zTh} {l : Launch}
theorem z_getsU (C : ZC κ "java/lang/Throwable" nm cc nL ret rm P) (hκ : κ.1 = θ) (hκl : κ.2.2.1 = l) (hZ : zTx θ l) (q : Nat) (d : decode cc pc = .ok (.getstatic 13, 3)) (hq : pc + 3 = q) (kk : ∀ o : Option Nat, Z κ Pic n k q lv (va_rf o :: rest)) : Z κ Pic n k pc lv rest := by
  obtain ⟨θ', p, l', e, R, s, m, args, below, meth, c, Q⟩ := κ
  obtain ⟨hx, hb, hml, hown, hts, hU, hlk, hret, hnm, hR, hQ⟩ := C
  have hκ : θ' = θ := hκ
  subst hκ; subst hq
  intro H locs ls hP hS hl
  rcases (hZ.U hU).1 with h | ⟨t, h⟩
  · exact va_gets hx hb h hS hown (hts _ q1315) (fun x hx => hx) d (kk none H locs ls hP hS hl)
  · exact va_gets hx hb h hS hown (hts _ q1315) (fun x hx => hx) d (kk (some t) H locs ls hP hS hl)
theorem z_getsN (C : ZC κ "java/lang/Throwable" nm cc nL ret rm P) (hκ : κ.1 = θ) (hκl : κ.2.2.1 = l) (hZ : zTx θ l) (q : Nat) (d : decode cc pc = .ok (.getstatic 20, 3)) (hq : pc + 3 = q) (kk : ∀ o : Option Nat, Z κ Pic n k q lv (va_rf o :: rest)) : Z κ Pic n k pc lv rest := by
  obtain ⟨θ', p, l', e, R, s, m, args, below, meth, c, Q⟩ := κ
  obtain ⟨hx, hb, hml, hown, hts, hU, hlk, hret, hnm, hR, hQ⟩ := C
  have hκ : θ' = θ := hκ
  subst hκ; subst hq
  intro H locs ls hP hS hl
  rcases (hZ.N hU).1 with h | ⟨t, h⟩
  · exact va_gets hx hb h hS hown (hts _ q1317) (fun x hx => hx) d (kk none H locs ls hP hS hl)
  · exact va_gets hx hb h hS hown (hts _ q1317) (fun x hx => hx) d (kk (some t) H locs ls hP hS hl)
end ZGs

set_option maxRecDepth 100000 in
theorem kJ5_init_25 {l : Launch} {θ : zTh} {M N : zMap} (hT : zTb θ) (a : Nat)  (hZ : zTx θ l) (hM : M a = some (.inr (25, [.null, .null, .null, .null, .null, .int (iI (0)), .int (iI (0))]))) : ZM θ l yJ5_init_3 cJ5_init_3 5 none ⟨1, 0, 0, 40⟩ [.ref (a), .null, .null, .int (iI (0)), .int (iI (0))] (zP θ M N) (zFn none (zP θ (zup M a (.inr (25, [.null, .null, .null, .null, .null, .int (iI (0)), .int (iI (0))]))) N)) := by
  refine z_start (own := RJ5) (nm := "<init>") pnJ5 rfl rfl (Nat.le_of_ble_eq_true rfl) ?_
  intro κ hκ hκl C
  change Z κ (zP θ M N) 0 0 0 [(0, .ref (a)), (1, .null), (2, .null), (3, .int (iI (0))), (4, .int (iI (0)))] []
  refine z_aload_n C 1 0 dJ5_init_3_0 rfl rfl ?_
  refine z_objInit C 4 dJ5_init_3_1 q1314 q145 q146 (Nat.le_of_ble_eq_true rfl) (Nat.le_of_ble_eq_true rfl) rfl ?_
  refine z_aload_n C 5 0 dJ5_init_3_4 rfl rfl ?_
  refine z_aload_n C 6 0 dJ5_init_3_5 rfl rfl ?_
  refine z_putf (fs' := [.ref (a), .null, .null, .null, .null, .int (iI (0)), .int (iI (0))]) C hκ 9 0 zk_X25 hM (by decide) q1351 (Or.inl rfl) rfl rfl rfl (Nat.le_of_ble_eq_true rfl) rfl dJ5_init_3_6 rfl ?_
  obtain ⟨M1, eM1⟩ : ∃ z9 : zMap, zup M a (.inr (25, [.ref (a), .null, .null, .null, .null, .int (iI (0)), .int (iI (0))]) : va_E) = z9 := ⟨_, rfl⟩
  rw [eM1]
  have o1 : M1 a = some (.inr (25, [.ref (a), .null, .null, .null, .null, .int (iI (0)), .int (iI (0))])) := eM1 ▸ zup_s
  refine z_aload_n C 10 0 dJ5_init_3_9 rfl rfl ?_
  refine z_getsU C hκ hκl hZ 13 dJ5_init_3_10 rfl (fun o2 => ?_)
  refine z_putf (fs' := [.ref (a), va_rf (o2), .null, .null, .null, .int (iI (0)), .int (iI (0))]) C hκ 16 1 zk_X25 o1 (by decide) q1352 (Or.inl rfl) rfl (by cases (o2) <;> rfl) (by cases (o2) <;> rfl) (Nat.le_of_ble_eq_true rfl) rfl dJ5_init_3_13 rfl ?_
  obtain ⟨M2, eM2⟩ : ∃ z9 : zMap, zup M1 a (.inr (25, [.ref (a), va_rf (o2), .null, .null, .null, .int (iI (0)), .int (iI (0))]) : va_E) = z9 := ⟨_, rfl⟩
  rw [eM2]
  have o3 : M2 a = some (.inr (25, [.ref (a), va_rf (o2), .null, .null, .null, .int (iI (0)), .int (iI (0))])) := eM2 ▸ zup_s
  refine z_aload_n C 17 0 dJ5_init_3_16 rfl rfl ?_
  refine z_getsN C hκ hκl hZ 20 dJ5_init_3_17 rfl (fun o4 => ?_)
  refine z_putf (fs' := [.ref (a), va_rf (o2), va_rf (o4), .null, .null, .int (iI (0)), .int (iI (0))]) C hκ 23 2 zk_X25 o3 (by decide) q1353 (Or.inl rfl) rfl (by cases (o4) <;> rfl) (by cases (o4) <;> rfl) (Nat.le_of_ble_eq_true rfl) rfl dJ5_init_3_20 rfl ?_
  obtain ⟨M3, eM3⟩ : ∃ z9 : zMap, zup M2 a (.inr (25, [.ref (a), va_rf (o2), va_rf (o4), .null, .null, .int (iI (0)), .int (iI (0))]) : va_E) = z9 := ⟨_, rfl⟩
  rw [eM3]
  have o5 : M3 a = some (.inr (25, [.ref (a), va_rf (o2), va_rf (o4), .null, .null, .int (iI (0)), .int (iI (0))])) := eM3 ▸ zup_s
  refine z_iload C 25 4 dJ5_init_3_23 rfl rfl ?_
  refine z_if_eq C 36 28 dJ5_init_3_25 (by decide) ⟨by decide, by decide⟩ rfl (fun c6 => ?_) (fun c6 => absurd c6 (by decide))
  refine z_aload_n C 37 0 dJ5_init_3_36 rfl rfl ?_
  refine z_null C 38 dJ5_init_3_37 rfl ?_
  refine z_putf (fs' := [.ref (a), .null, va_rf (o4), .null, .null, .int (iI (0)), .int (iI (0))]) C hκ 41 1 zk_X25 o5 (by decide) q1352 (Or.inl rfl) rfl rfl rfl (Nat.le_of_ble_eq_true rfl) rfl dJ5_init_3_38 rfl ?_
  obtain ⟨M4, eM4⟩ : ∃ z9 : zMap, zup M3 a (.inr (25, [.ref (a), .null, va_rf (o4), .null, .null, .int (iI (0)), .int (iI (0))]) : va_E) = z9 := ⟨_, rfl⟩
  rw [eM4]
  have o7 : M4 a = some (.inr (25, [.ref (a), .null, va_rf (o4), .null, .null, .int (iI (0)), .int (iI (0))])) := eM4 ▸ zup_s
  refine z_aload_n C 42 0 dJ5_init_3_41 rfl rfl ?_
  refine z_aload_nN C 43 1 dJ5_init_3_42 rfl rfl ?_
  refine z_putf (fs' := [.ref (a), .null, va_rf (o4), .null, .null, .int (iI (0)), .int (iI (0))]) C hκ 46 3 zk_X25 o7 (by decide) q1350 (Or.inl rfl) rfl rfl rfl (Nat.le_of_ble_eq_true rfl) rfl dJ5_init_3_43 rfl ?_
  obtain ⟨M5, eM5⟩ : ∃ z9 : zMap, zup M4 a (.inr (25, [.ref (a), .null, va_rf (o4), .null, .null, .int (iI (0)), .int (iI (0))]) : va_E) = z9 := ⟨_, rfl⟩
  rw [eM5]
  have o8 : M5 a = some (.inr (25, [.ref (a), .null, va_rf (o4), .null, .null, .int (iI (0)), .int (iI (0))])) := eM5 ▸ zup_s
  refine z_aload_n C 47 0 dJ5_init_3_46 rfl rfl ?_
  refine z_aload_nN C 48 2 dJ5_init_3_47 rfl rfl ?_
  refine z_putf (fs' := [.null, .null, va_rf (o4), .null, .null, .int (iI (0)), .int (iI (0))]) C hκ 51 0 zk_X25 o8 (by decide) q1351 (Or.inl rfl) rfl rfl rfl (Nat.le_of_ble_eq_true rfl) rfl dJ5_init_3_48 rfl ?_
  obtain ⟨M6, eM6⟩ : ∃ z9 : zMap, zup M5 a (.inr (25, [.null, .null, va_rf (o4), .null, .null, .int (iI (0)), .int (iI (0))]) : va_E) = z9 := ⟨_, rfl⟩
  rw [eM6]
  have o9 : M6 a = some (.inr (25, [.null, .null, va_rf (o4), .null, .null, .int (iI (0)), .int (iI (0))])) := eM6 ▸ zup_s
  refine z_iload_n C 52 3 dJ5_init_3_51 rfl rfl ?_
  refine z_if_ne C 60 55 dJ5_init_3_52 (by decide) ⟨by decide, by decide⟩ rfl (fun c10 => absurd c10 (by decide)) (fun c10 => ?_)
  refine z_aload_n C 56 0 dJ5_init_3_55 rfl rfl ?_
  refine z_null C 57 dJ5_init_3_56 rfl ?_
  refine z_putf (fs' := [.null, .null, .null, .null, .null, .int (iI (0)), .int (iI (0))]) C hκ 60 2 zk_X25 o9 (by decide) q1353 (Or.inl rfl) rfl rfl rfl (Nat.le_of_ble_eq_true rfl) rfl dJ5_init_3_57 rfl ?_
  obtain ⟨M7, eM7⟩ : ∃ z9 : zMap, zup M6 a (.inr (25, [.null, .null, .null, .null, .null, .int (iI (0)), .int (iI (0))]) : va_E) = z9 := ⟨_, rfl⟩
  rw [eM7]
  have o11 : M7 a = some (.inr (25, [.null, .null, .null, .null, .null, .int (iI (0)), .int (iI (0))])) := eM7 ▸ zup_s
  exact z_vret C dJ5_init_3_60 (Nat.le_of_ble_eq_true rfl) (Nat.le_of_ble_eq_true rfl) ⟨rfl, (congrArg (fun M9 => zP θ M9 N) (by rw [← eM7, ← eM6, ← eM5, ← eM4, ← eM3, ← eM2, ← eM1] <;> simp only [zup_up]))⟩
set_option maxRecDepth 100000 in
theorem kJ6_init_25 {l : Launch} {θ : zTh} {M N : zMap} (hT : zTb θ) (a : Nat)  (hZ : zTx θ l) (hM : M a = some (.inr (25, [.null, .null, .null, .null, .null, .int (iI (0)), .int (iI (0))]))) : ZM θ l yJ6_init_3 cJ6_init_3 5 none ⟨2, 0, 0, 64⟩ [.ref (a), .null, .null, .int (iI (0)), .int (iI (0))] (zP θ M N) (zFn none (zP θ (zup M a (.inr (25, [.null, .null, .null, .null, .null, .int (iI (0)), .int (iI (0))]))) N)) := by
  refine z_start (own := RJ6) (nm := "<init>") pnJ6 rfl rfl (Nat.le_of_ble_eq_true rfl) ?_
  intro κ hκ hκl C
  change Z κ (zP θ M N) 0 0 0 [(0, .ref (a)), (1, .null), (2, .null), (3, .int (iI (0))), (4, .int (iI (0)))] []
  refine z_aload_n C 1 0 dJ6_init_3_0 rfl rfl ?_
  refine z_aload_nN C 2 1 dJ6_init_3_1 rfl rfl ?_
  refine z_aload_nN C 3 2 dJ6_init_3_2 rfl rfl ?_
  refine z_iload_n C 4 3 dJ6_init_3_3 rfl rfl ?_
  refine z_iload C 6 4 dJ6_init_3_4 rfl rfl ?_
  refine z_callI (As := [.null, .null, .int (iI (0)), .int (iI (0))]) (rest := []) C hκ hκl 9 (kJ5_init_25 hT (a) hZ hM) dJ6_init_3_6 q1509 q1510 q120 q1511 znJ5_init_3 rfl (Nat.le_of_ble_eq_true rfl) (Nat.le_of_ble_eq_true rfl) (Nat.le_of_ble_eq_true rfl) (Nat.le_of_ble_eq_true rfl) rfl (Nat.le_of_ble_eq_true rfl) rfl (fun v9 Q9 h9 => ?_)
  obtain ⟨rfl, rfl⟩ := h9
  obtain ⟨M1, eM1⟩ : ∃ z9 : zMap, zup M a (.inr (25, [.null, .null, .null, .null, .null, .int (iI (0)), .int (iI (0))]) : va_E) = z9 := ⟨_, rfl⟩
  rw [eM1]
  have o1 : M1 a = some (.inr (25, [.null, .null, .null, .null, .null, .int (iI (0)), .int (iI (0))])) := eM1 ▸ zup_s
  refine z_as (st' := []) rfl rfl rfl ?_
  exact z_vret C dJ6_init_3_9 (Nat.le_of_ble_eq_true rfl) (Nat.le_of_ble_eq_true rfl) ⟨rfl, (congrArg (fun M9 => zP θ M9 N) (by rw [← eM1] <;> simp only [zup_up]))⟩
set_option maxRecDepth 100000 in
theorem k25_init_25 {l : Launch} {θ : zTh} {M N : zMap} (hT : zTb θ) (a : Nat) (c : Int) (r_c : inR c) (hZ : zTx θ l) (hM : M a = some (.inr (25, [.null, .null, .null, .null, .null, .int (iI (0)), .int (iI (0))]))) : ZM θ l yX25_init cX25_init 2 none ⟨3, 0, 0, 88⟩ [.ref (a), .int (iI (c))] (zP θ M N) (zFn none (zP θ (zup M a (.inr (25, [.null, .null, .null, .null, .null, .int (iI (0)), .int (iI (c))]))) N)) := by
  refine z_start (own := RX25) (nm := "<init>") pnX25 rfl rfl (Nat.le_of_ble_eq_true rfl) ?_
  intro κ hκ hκl C
  change Z κ (zP θ M N) 0 0 0 [(0, .ref (a)), (1, .int (iI (c)))] []
  refine z_aload_n C 1 0 dX25_init_0 rfl rfl ?_
  refine z_null C 2 dX25_init_1 rfl ?_
  refine z_null C 3 dX25_init_2 rfl ?_
  refine z_iconst C 4 dX25_init_3 rfl ?_
  refine z_iconst C 5 dX25_init_4 rfl ?_
  refine z_callI (As := [.null, .null, .int (iI (0)), .int (iI (0))]) (rest := []) C hκ hκl 8 (kJ6_init_25 hT (a) hZ hM) dX25_init_5 q1506 q1507 q121 q1508 znJ6_init_3 rfl (Nat.le_of_ble_eq_true rfl) (Nat.le_of_ble_eq_true rfl) (Nat.le_of_ble_eq_true rfl) (Nat.le_of_ble_eq_true rfl) rfl (Nat.le_of_ble_eq_true rfl) rfl (fun v9 Q9 h9 => ?_)
  obtain ⟨rfl, rfl⟩ := h9
  obtain ⟨M1, eM1⟩ : ∃ z9 : zMap, zup M a (.inr (25, [.null, .null, .null, .null, .null, .int (iI (0)), .int (iI (0))]) : va_E) = z9 := ⟨_, rfl⟩
  rw [eM1]
  have o1 : M1 a = some (.inr (25, [.null, .null, .null, .null, .null, .int (iI (0)), .int (iI (0))])) := eM1 ▸ zup_s
  refine z_as (st' := []) rfl rfl rfl ?_
  refine z_aload_n C 9 0 dX25_init_8 rfl rfl ?_
  refine z_iload_n C 10 1 dX25_init_9 rfl rfl ?_
  refine z_putF (fs' := [.null, .null, .null, .null, .null, .int (iI (0)), .int (iI (c))]) C hκ 13 6 zk_X25 o1 (by decide) q1512 (Or.inl rfl) rfl rfl rfl rfl (Nat.le_of_ble_eq_true rfl) rfl dX25_init_10 rfl ?_
  obtain ⟨M2, eM2⟩ : ∃ z9 : zMap, zup M1 a (.inr (25, [.null, .null, .null, .null, .null, .int (iI (0)), .int (iI (c))]) : va_E) = z9 := ⟨_, rfl⟩
  rw [eM2]
  have o2 : M2 a = some (.inr (25, [.null, .null, .null, .null, .null, .int (iI (0)), .int (iI (c))])) := eM2 ▸ zup_s
  exact z_vret C dX25_init_13 (Nat.le_of_ble_eq_true rfl) (Nat.le_of_ble_eq_true rfl) ⟨rfl, (congrArg (fun M9 => zP θ M9 N) (by rw [← eM2, ← eM1] <;> simp only [zup_up]))⟩
