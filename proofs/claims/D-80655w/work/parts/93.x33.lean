/-! ===== cells: widened ===== -/
def wdC (k b t : Int) : Int := if t = 7 ∧ k < 7 then sI (rlD k b) else if t = 6 ∧ k < 6 then sJ (sgF k b) else b
theorem wdC_L {k b t : Int} (h : inL b) : inL (wdC k b t) := by
  unfold wdC
  split
  · exact sI_L _
  · split
    · have := sJ_R (sgF k b); exact ⟨by have := this.1; omega, by have := this.2; omega⟩
    · exact h
theorem wdC_eq {k b t : Int} (ht : t ≤ 7) (hk : k ≤ t) : wdC k b t = wdL b k t := by
  unfold wdC
  by_cases h1 : t = 7 ∧ k < 7
  · rw [if_pos h1, h1.1]; exact wd_7 h1.2
  · rw [if_neg h1]
    by_cases h2 : t = 6 ∧ k < 6
    · rw [if_pos h2, h2.1]; exact wd_6 h2.2
    · rw [if_neg h2]; exact (wd_s h1 h2 ht hk).symm
theorem l2i_iI {b : Int} : (lI b).toInt32 = iI b := by
  show Int32.ofBitVec ((BitVec.ofInt 64 b).signExtend 32) = Int32.ofBitVec (BitVec.ofInt 32 b)
  congr 1
  rw [BitVec.signExtend_eq_setWidth_of_le _ (by decide)]
  apply BitVec.eq_of_toNat_eq
  rw [BitVec.toNat_setWidth, BitVec.toNat_ofInt, BitVec.toNat_ofInt]
  have h0 : (0 : Int) ≤ b % (2 ^ 64 : Nat) := Int.emod_nonneg _ (by decide)
  have h1 : (0 : Int) ≤ b % (2 ^ 32 : Nat) := Int.emod_nonneg _ (by decide)
  have h2 : b % ((2 ^ 64 : Nat) : Int) % ((2 ^ 32 : Nat) : Int) = b % ((2 ^ 32 : Nat) : Int) := Int.emod_emod_of_dvd _ ⟨(2 ^ 32 : Nat), by decide⟩
  omega
def wtK (k t : Int) : Int := if 8 ≤ t then k else t
def wtB (k b t : Int) : Int := if 8 ≤ t then b else wdC k b t
theorem clK_R {t : Int} (h0 : -1 ≤ t) (h1 : t < 2147483648) : inR (clK t) := by unfold clK inR; split <;> (try split) <;> omega

set_option maxRecDepth 100000 in
theorem k6_real {l : Launch} {θ : zTh} {M N : zMap} (hT : zTb θ) (a : Nat) (k : Int) (b : Int) (t : Option Nat)  (hM : M a = some (.inr (6, [.int (iI k), .long (lI b), va_rf t]))) (hk : nmOk k b) (r_k : inR k) : ZM θ l yX6_real cX6_real 1 (some .double) ⟨1, 0, 0, 40⟩ [.ref (a)] (zP θ M N) (zFn (some (.double (rlD k b))) (zP θ M N)) := by
  refine z_start (own := RX6) (nm := "real") pnX6 rfl rfl (Nat.le_of_ble_eq_true rfl) ?_
  intro κ hκ hκl C
  change Z κ (zP θ M N) 0 0 0 [(0, .ref (a))] []
  refine z_aload_n C 1 0 dX6_real_0 rfl rfl ?_
  refine z_getf C hκ (v := .int (iI (k))) 4 0 zk_X6 hM (by decide) q246 (Or.inl rfl) rfl dX6_real_1 rfl ?_
  refine z_bipush C 6 dX6_real_4 (by decide) rfl ?_
  refine z_icmp_ne C 19 9 dX6_real_6 (by decide) r_k ⟨by decide, by decide⟩ rfl (fun c1 => ?_) (fun c1 => ?_)
  · skip
    refine z_aload_n C 20 0 dX6_real_19 rfl rfl ?_
    refine z_getf C hκ (v := .int (iI (k))) 23 0 zk_X6 hM (by decide) q246 (Or.inl rfl) rfl dX6_real_20 rfl ?_
    refine z_bipush C 25 dX6_real_23 (by decide) rfl ?_
    refine z_icmp_ne C 40 28 dX6_real_25 (by decide) r_k ⟨by decide, by decide⟩ rfl (fun c2 => ?_) (fun c2 => ?_)
    · skip
      refine z_aload_n C 41 0 dX6_real_40 rfl rfl ?_
      refine z_getf C hκ (v := .long (lI (b))) 44 1 zk_X6 hM (by decide) q248 (Or.inl rfl) rfl dX6_real_41 rfl ?_
      refine z_l2dE (v := FP.l2d (lI (b))) C 45 dX6_real_44 rfl rfl ?_
      exact z_dret C dX6_real_45 (Nat.le_of_ble_eq_true rfl) (Nat.le_of_ble_eq_true rfl) ⟨congrArg some ((congrArg Value.double (by clear C hκ hκl ; unfold rlD; first | rw [if_pos (by omega)] | rw [if_neg (by omega), if_pos (by omega)] | rw [if_neg (by omega), if_neg (by omega)] | rw [if_neg (by omega)]))), rfl⟩
    · skip
      refine z_aload_n C 29 0 dX6_real_28 rfl rfl ?_
      refine z_getf C hκ (v := .long (lI (b))) 32 1 zk_X6 hM (by decide) q248 (Or.inl rfl) rfl dX6_real_29 rfl ?_
      refine z_l2i C 33 dX6_real_32 rfl ?_
      refine z_bits_i2f C 36 (sni2f (U32_vg (hk.2 (by omega)).2)) q1611 dX6_real_33 (Nat.le_of_ble_eq_true rfl) (Nat.le_of_ble_eq_true rfl) (Nat.le_of_ble_eq_true rfl) rfl ?_
      refine z_as (st' := [.float (U32 (b))]) rfl rfl rfl ?_
      refine z_f2dE (v := FP.f2d (U32 (b))) C 37 dX6_real_36 rfl (f2d_vf (U32_vg (hk.2 (by omega)).2)) rfl ?_
      refine z_goto C 45 dX6_real_37 (by decide) ?_
      exact z_dret C dX6_real_45 (Nat.le_of_ble_eq_true rfl) (Nat.le_of_ble_eq_true rfl) ⟨congrArg some ((congrArg Value.double (by clear C hκ hκl ; unfold rlD; first | rw [if_pos (by omega)] | rw [if_neg (by omega), if_pos (by omega)] | rw [if_neg (by omega), if_neg (by omega)] | rw [if_neg (by omega)]))), rfl⟩
  · skip
    refine z_aload_n C 10 0 dX6_real_9 rfl rfl ?_
    refine z_getf C hκ (v := .long (lI (b))) 13 1 zk_X6 hM (by decide) q248 (Or.inl rfl) rfl dX6_real_10 rfl ?_
    refine z_bits_l2d C 16 (snl2d (U64_vf (hk.1 (by omega)))) q1621 dX6_real_13 (Nat.le_of_ble_eq_true rfl) (Nat.le_of_ble_eq_true rfl) (Nat.le_of_ble_eq_true rfl) rfl ?_
    refine z_as (st' := [.double (U64 (b))]) rfl rfl rfl ?_
    refine z_goto C 45 dX6_real_16 (by decide) ?_
    exact z_dret C dX6_real_45 (Nat.le_of_ble_eq_true rfl) (Nat.le_of_ble_eq_true rfl) ⟨congrArg some ((congrArg Value.double (by clear C hκ hκl ; unfold rlD; first | rw [if_pos (by omega)] | rw [if_neg (by omega), if_pos (by omega)] | rw [if_neg (by omega), if_neg (by omega)] | rw [if_neg (by omega)]))), rfl⟩
set_option maxRecDepth 100000 in
theorem k6_single {l : Launch} {θ : zTh} {M N : zMap} (hT : zTb θ) (a : Nat) (k : Int) (b : Int) (t : Option Nat)  (hM : M a = some (.inr (6, [.int (iI k), .long (lI b), va_rf t]))) (hk : nmOk k b) (r_k : inR k) : ZM θ l yX6_single cX6_single 1 (some .float) ⟨1, 0, 0, 40⟩ [.ref (a)] (zP θ M N) (zFn (some (.float (sgF k b))) (zP θ M N)) := by
  refine z_start (own := RX6) (nm := "single") pnX6 rfl rfl (Nat.le_of_ble_eq_true rfl) ?_
  intro κ hκ hκl C
  change Z κ (zP θ M N) 0 0 0 [(0, .ref (a))] []
  refine z_aload_n C 1 0 dX6_single_0 rfl rfl ?_
  refine z_getf C hκ (v := .int (iI (k))) 4 0 zk_X6 hM (by decide) q246 (Or.inl rfl) rfl dX6_single_1 rfl ?_
  refine z_bipush C 6 dX6_single_4 (by decide) rfl ?_
  refine z_icmp_ne C 20 9 dX6_single_6 (by decide) r_k ⟨by decide, by decide⟩ rfl (fun c1 => ?_) (fun c1 => ?_)
  · skip
    refine z_aload_n C 21 0 dX6_single_20 rfl rfl ?_
    refine z_getf C hκ (v := .long (lI (b))) 24 1 zk_X6 hM (by decide) q248 (Or.inl rfl) rfl dX6_single_21 rfl ?_
    refine z_l2fE (v := FP.l2f (lI (b))) C 25 dX6_single_24 rfl rfl ?_
    exact z_fret C dX6_single_25 (Nat.le_of_ble_eq_true rfl) (Nat.le_of_ble_eq_true rfl) ⟨congrArg some ((congrArg Value.float (by clear C hκ hκl ; unfold sgF; first | rw [if_pos (by omega)] | rw [if_neg (by omega), if_pos (by omega)] | rw [if_neg (by omega), if_neg (by omega)] | rw [if_neg (by omega)]))), rfl⟩
  · skip
    refine z_aload_n C 10 0 dX6_single_9 rfl rfl ?_
    refine z_getf C hκ (v := .long (lI (b))) 13 1 zk_X6 hM (by decide) q248 (Or.inl rfl) rfl dX6_single_10 rfl ?_
    refine z_l2i C 14 dX6_single_13 rfl ?_
    refine z_bits_i2f C 17 (sni2f (U32_vg (hk.2 (by omega)).2)) q1611 dX6_single_14 (Nat.le_of_ble_eq_true rfl) (Nat.le_of_ble_eq_true rfl) (Nat.le_of_ble_eq_true rfl) rfl ?_
    refine z_as (st' := [.float (U32 (b))]) rfl rfl rfl ?_
    refine z_goto C 25 dX6_single_17 (by decide) ?_
    exact z_fret C dX6_single_25 (Nat.le_of_ble_eq_true rfl) (Nat.le_of_ble_eq_true rfl) ⟨congrArg some ((congrArg Value.float (by clear C hκ hκl ; unfold sgF; first | rw [if_pos (by omega)] | rw [if_neg (by omega), if_pos (by omega)] | rw [if_neg (by omega), if_neg (by omega)] | rw [if_neg (by omega)]))), rfl⟩
set_option maxRecDepth 100000 in
theorem k6_widen {l : Launch} {θ : zTh} {M N : zMap} (hT : zTb θ) (a : Nat) (k : Int) (b : Int) (t : Option Nat) (to : Int) (r_to : inR to) (hM : M a = some (.inr (6, [.int (iI k), .long (lI b), va_rf t]))) (hk : nmOk k b) (r_k : inR k) : ZM θ l yX6_widen cX6_widen 2 none ⟨2, 0, 0, 61⟩ [.ref (a), .int (iI (to))] (zP θ M N) (zFn none (zP θ (zup M a (.inr (6, [.int (iI (to)), .long (lI (wdC k b to)), va_rf (t)]))) N)) := by
  refine z_start (own := RX6) (nm := "widen") pnX6 rfl rfl (Nat.le_of_ble_eq_true rfl) ?_
  intro κ hκ hκl C
  change Z κ (zP θ M N) 0 0 0 [(0, .ref (a)), (1, .int (iI (to)))] []
  refine z_iload_n C 1 1 dX6_widen_0 rfl rfl ?_
  refine z_bipush C 3 dX6_widen_1 (by decide) rfl ?_
  refine z_icmp_ne C 29 6 dX6_widen_3 (by decide) r_to ⟨by decide, by decide⟩ rfl (fun c1 => ?_) (fun c1 => ?_)
  · skip
    refine z_iload_n C 30 1 dX6_widen_29 rfl rfl ?_
    refine z_bipush C 32 dX6_widen_30 (by decide) rfl ?_
    refine z_icmp_ne C 56 35 dX6_widen_32 (by decide) r_to ⟨by decide, by decide⟩ rfl (fun c2 => ?_) (fun c2 => ?_)
    · skip
      refine z_aload_n C 57 0 dX6_widen_56 rfl rfl ?_
      refine z_iload_n C 58 1 dX6_widen_57 rfl rfl ?_
      refine z_putf (fs' := [.int (iI (to)), .long (lI (b)), va_rf (t)]) C hκ 61 0 zk_X6 hM (by decide) q246 (Or.inl rfl) rfl rfl rfl (Nat.le_of_ble_eq_true rfl) rfl dX6_widen_58 rfl ?_
      obtain ⟨M1, eM1⟩ : ∃ z9 : zMap, zup M a (.inr (6, [.int (iI (to)), .long (lI (b)), va_rf (t)]) : va_E) = z9 := ⟨_, rfl⟩
      rw [eM1]
      have o3 : M1 a = some (.inr (6, [.int (iI (to)), .long (lI (b)), va_rf (t)])) := eM1 ▸ zup_s
      exact z_vret C dX6_widen_61 (Nat.le_of_ble_eq_true rfl) (Nat.le_of_ble_eq_true rfl) ⟨rfl, (congrArg (fun M9 => zP θ M9 N) (by rw [← eM1] <;> (try simp only [zup_up]) <;> (first | done | rfl | (unfold wdC; rw [if_neg (by omega), if_neg (by omega)]))))⟩
    · skip
      refine z_aload_n C 36 0 dX6_widen_35 rfl rfl ?_
      refine z_getf C hκ (v := .int (iI (k))) 39 0 zk_X6 hM (by decide) q246 (Or.inl rfl) rfl dX6_widen_36 rfl ?_
      refine z_bipush C 41 dX6_widen_39 (by decide) rfl ?_
      refine z_icmp_ge C 56 44 dX6_widen_41 (by decide) r_k ⟨by decide, by decide⟩ rfl (fun c4 => ?_) (fun c4 => ?_)
      · skip
        refine z_aload_n C 57 0 dX6_widen_56 rfl rfl ?_
        refine z_iload_n C 58 1 dX6_widen_57 rfl rfl ?_
        refine z_putf (fs' := [.int (iI (to)), .long (lI (b)), va_rf (t)]) C hκ 61 0 zk_X6 hM (by decide) q246 (Or.inl rfl) rfl rfl rfl (Nat.le_of_ble_eq_true rfl) rfl dX6_widen_58 rfl ?_
        obtain ⟨M2, eM2⟩ : ∃ z9 : zMap, zup M a (.inr (6, [.int (iI (to)), .long (lI (b)), va_rf (t)]) : va_E) = z9 := ⟨_, rfl⟩
        rw [eM2]
        have o5 : M2 a = some (.inr (6, [.int (iI (to)), .long (lI (b)), va_rf (t)])) := eM2 ▸ zup_s
        exact z_vret C dX6_widen_61 (Nat.le_of_ble_eq_true rfl) (Nat.le_of_ble_eq_true rfl) ⟨rfl, (congrArg (fun M9 => zP θ M9 N) (by rw [← eM2] <;> (try simp only [zup_up]) <;> (first | done | rfl | (unfold wdC; rw [if_neg (by omega), if_neg (by omega)]))))⟩
      · skip
        refine z_aload_n C 45 0 dX6_widen_44 rfl rfl ?_
        refine z_aload_n C 46 0 dX6_widen_45 rfl rfl ?_
        refine z_callV (As := []) (rest := [.ref (a)]) C hκ hκl 49 (k6_single hT (a) (k) (b) (t) hM hk r_k) dX6_widen_46 q1730 q1608 q1609 q96 q1610 znX6_single (Nat.le_of_ble_eq_true rfl) (Nat.le_of_ble_eq_true rfl) (Nat.le_of_ble_eq_true rfl) (Nat.le_of_ble_eq_true rfl) (zrec_P hM) rfl rfl (Nat.le_of_ble_eq_true rfl) rfl (fun v9 Q9 h9 => ?_)
        obtain ⟨rfl, rfl⟩ := h9
        refine z_as (st' := [.float (sgF (k) (b)), .ref (a)]) rfl rfl rfl ?_
        refine z_callS (As := [.float (sgF (k) (b))]) (rest := [.ref (a)]) C hκ hκl 52 (kF_bits hT (sgF (k) (b)) (sgF_vf hk)) dX6_widen_49 q1731 q1548 q133 q1549 znJ15_floatToIntBits (Nat.le_of_ble_eq_true rfl) (Nat.le_of_ble_eq_true rfl) (Nat.le_of_ble_eq_true rfl) (Nat.le_of_ble_eq_true rfl) rfl (Nat.le_of_ble_eq_true rfl) rfl (fun v9 Q9 h9 => ?_)
        obtain ⟨rfl, rfl⟩ := h9
        refine z_as (st' := [.int ((sgF (k) (b)).toInt32), .ref (a)]) rfl rfl rfl ?_
        rw [show (.int ((sgF (k) (b)).toInt32) : Value) = .int (iI (sJ (sgF (k) (b)))) from congrArg Value.int (iI_sJ _)]
        refine z_i2l C 53 dX6_widen_52 (sJ_R _) rfl ?_
        rw [show (.long (lI (sJ (sgF (k) (b)))) : Value) = .long (lI (wdC k b to)) from congrArg (fun z9 => Value.long z9) (congrArg lI (by clear C hκ hκl ; unfold wdC; rw [if_neg (by omega), if_pos (by omega)]))]
        refine z_putf (fs' := [.int (iI (k)), .long (lI (wdC k b to)), va_rf (t)]) C hκ 56 1 zk_X6 hM (by decide) q248 (Or.inl rfl) rfl rfl rfl (Nat.le_of_ble_eq_true rfl) rfl dX6_widen_53 rfl ?_
        obtain ⟨M3, eM3⟩ : ∃ z9 : zMap, zup M a (.inr (6, [.int (iI (k)), .long (lI (wdC k b to)), va_rf (t)]) : va_E) = z9 := ⟨_, rfl⟩
        rw [eM3]
        have o6 : M3 a = some (.inr (6, [.int (iI (k)), .long (lI (wdC k b to)), va_rf (t)])) := eM3 ▸ zup_s
        refine z_aload_n C 57 0 dX6_widen_56 rfl rfl ?_
        refine z_iload_n C 58 1 dX6_widen_57 rfl rfl ?_
        refine z_putf (fs' := [.int (iI (to)), .long (lI (wdC k b to)), va_rf (t)]) C hκ 61 0 zk_X6 o6 (by decide) q246 (Or.inl rfl) rfl rfl rfl (Nat.le_of_ble_eq_true rfl) rfl dX6_widen_58 rfl ?_
        obtain ⟨M4, eM4⟩ : ∃ z9 : zMap, zup M3 a (.inr (6, [.int (iI (to)), .long (lI (wdC k b to)), va_rf (t)]) : va_E) = z9 := ⟨_, rfl⟩
        rw [eM4]
        have o7 : M4 a = some (.inr (6, [.int (iI (to)), .long (lI (wdC k b to)), va_rf (t)])) := eM4 ▸ zup_s
        exact z_vret C dX6_widen_61 (Nat.le_of_ble_eq_true rfl) (Nat.le_of_ble_eq_true rfl) ⟨rfl, (congrArg (fun M9 => zP θ M9 N) (by rw [← eM4, ← eM3] <;> (try simp only [zup_up]) <;> (first | done | rfl | (unfold wdC; rw [if_neg (by omega), if_neg (by omega)]))))⟩
  · skip
    refine z_aload_n C 7 0 dX6_widen_6 rfl rfl ?_
    refine z_getf C hκ (v := .int (iI (k))) 10 0 zk_X6 hM (by decide) q246 (Or.inl rfl) rfl dX6_widen_7 rfl ?_
    refine z_bipush C 12 dX6_widen_10 (by decide) rfl ?_
    refine z_icmp_ge C 29 15 dX6_widen_12 (by decide) r_k ⟨by decide, by decide⟩ rfl (fun c8 => ?_) (fun c8 => ?_)
    · skip
      refine z_iload_n C 30 1 dX6_widen_29 rfl rfl ?_
      refine z_bipush C 32 dX6_widen_30 (by decide) rfl ?_
      refine z_icmp_ne C 56 35 dX6_widen_32 (by decide) r_to ⟨by decide, by decide⟩ rfl (fun c9 => ?_) (fun c9 => ?_)
      · skip
        refine z_aload_n C 57 0 dX6_widen_56 rfl rfl ?_
        refine z_iload_n C 58 1 dX6_widen_57 rfl rfl ?_
        refine z_putf (fs' := [.int (iI (to)), .long (lI (b)), va_rf (t)]) C hκ 61 0 zk_X6 hM (by decide) q246 (Or.inl rfl) rfl rfl rfl (Nat.le_of_ble_eq_true rfl) rfl dX6_widen_58 rfl ?_
        obtain ⟨M5, eM5⟩ : ∃ z9 : zMap, zup M a (.inr (6, [.int (iI (to)), .long (lI (b)), va_rf (t)]) : va_E) = z9 := ⟨_, rfl⟩
        rw [eM5]
        have o10 : M5 a = some (.inr (6, [.int (iI (to)), .long (lI (b)), va_rf (t)])) := eM5 ▸ zup_s
        exact z_vret C dX6_widen_61 (Nat.le_of_ble_eq_true rfl) (Nat.le_of_ble_eq_true rfl) ⟨rfl, (congrArg (fun M9 => zP θ M9 N) (by rw [← eM5] <;> (try simp only [zup_up]) <;> (first | done | rfl | (unfold wdC; rw [if_neg (by omega), if_neg (by omega)]))))⟩
      · skip
        refine z_aload_n C 36 0 dX6_widen_35 rfl rfl ?_
        refine z_getf C hκ (v := .int (iI (k))) 39 0 zk_X6 hM (by decide) q246 (Or.inl rfl) rfl dX6_widen_36 rfl ?_
        refine z_bipush C 41 dX6_widen_39 (by decide) rfl ?_
        refine z_icmp_ge C 56 44 dX6_widen_41 (by decide) r_k ⟨by decide, by decide⟩ rfl (fun c11 => ?_) (fun c11 => ?_)
        · skip
          refine z_aload_n C 57 0 dX6_widen_56 rfl rfl ?_
          refine z_iload_n C 58 1 dX6_widen_57 rfl rfl ?_
          refine z_putf (fs' := [.int (iI (to)), .long (lI (b)), va_rf (t)]) C hκ 61 0 zk_X6 hM (by decide) q246 (Or.inl rfl) rfl rfl rfl (Nat.le_of_ble_eq_true rfl) rfl dX6_widen_58 rfl ?_
          obtain ⟨M6, eM6⟩ : ∃ z9 : zMap, zup M a (.inr (6, [.int (iI (to)), .long (lI (b)), va_rf (t)]) : va_E) = z9 := ⟨_, rfl⟩
          rw [eM6]
          have o12 : M6 a = some (.inr (6, [.int (iI (to)), .long (lI (b)), va_rf (t)])) := eM6 ▸ zup_s
          exact z_vret C dX6_widen_61 (Nat.le_of_ble_eq_true rfl) (Nat.le_of_ble_eq_true rfl) ⟨rfl, (congrArg (fun M9 => zP θ M9 N) (by rw [← eM6] <;> (try simp only [zup_up]) <;> (first | done | rfl | (unfold wdC; rw [if_neg (by omega), if_neg (by omega)]))))⟩
        · skip
          refine z_aload_n C 45 0 dX6_widen_44 rfl rfl ?_
          refine z_aload_n C 46 0 dX6_widen_45 rfl rfl ?_
          refine z_callV (As := []) (rest := [.ref (a)]) C hκ hκl 49 (k6_single hT (a) (k) (b) (t) hM hk r_k) dX6_widen_46 q1730 q1608 q1609 q96 q1610 znX6_single (Nat.le_of_ble_eq_true rfl) (Nat.le_of_ble_eq_true rfl) (Nat.le_of_ble_eq_true rfl) (Nat.le_of_ble_eq_true rfl) (zrec_P hM) rfl rfl (Nat.le_of_ble_eq_true rfl) rfl (fun v9 Q9 h9 => ?_)
          obtain ⟨rfl, rfl⟩ := h9
          refine z_as (st' := [.float (sgF (k) (b)), .ref (a)]) rfl rfl rfl ?_
          refine z_callS (As := [.float (sgF (k) (b))]) (rest := [.ref (a)]) C hκ hκl 52 (kF_bits hT (sgF (k) (b)) (sgF_vf hk)) dX6_widen_49 q1731 q1548 q133 q1549 znJ15_floatToIntBits (Nat.le_of_ble_eq_true rfl) (Nat.le_of_ble_eq_true rfl) (Nat.le_of_ble_eq_true rfl) (Nat.le_of_ble_eq_true rfl) rfl (Nat.le_of_ble_eq_true rfl) rfl (fun v9 Q9 h9 => ?_)
          obtain ⟨rfl, rfl⟩ := h9
          refine z_as (st' := [.int ((sgF (k) (b)).toInt32), .ref (a)]) rfl rfl rfl ?_
          rw [show (.int ((sgF (k) (b)).toInt32) : Value) = .int (iI (sJ (sgF (k) (b)))) from congrArg Value.int (iI_sJ _)]
          refine z_i2l C 53 dX6_widen_52 (sJ_R _) rfl ?_
          rw [show (.long (lI (sJ (sgF (k) (b)))) : Value) = .long (lI (wdC k b to)) from congrArg (fun z9 => Value.long z9) (congrArg lI (by clear C hκ hκl ; unfold wdC; rw [if_neg (by omega), if_pos (by omega)]))]
          refine z_putf (fs' := [.int (iI (k)), .long (lI (wdC k b to)), va_rf (t)]) C hκ 56 1 zk_X6 hM (by decide) q248 (Or.inl rfl) rfl rfl rfl (Nat.le_of_ble_eq_true rfl) rfl dX6_widen_53 rfl ?_
          obtain ⟨M7, eM7⟩ : ∃ z9 : zMap, zup M a (.inr (6, [.int (iI (k)), .long (lI (wdC k b to)), va_rf (t)]) : va_E) = z9 := ⟨_, rfl⟩
          rw [eM7]
          have o13 : M7 a = some (.inr (6, [.int (iI (k)), .long (lI (wdC k b to)), va_rf (t)])) := eM7 ▸ zup_s
          refine z_aload_n C 57 0 dX6_widen_56 rfl rfl ?_
          refine z_iload_n C 58 1 dX6_widen_57 rfl rfl ?_
          refine z_putf (fs' := [.int (iI (to)), .long (lI (wdC k b to)), va_rf (t)]) C hκ 61 0 zk_X6 o13 (by decide) q246 (Or.inl rfl) rfl rfl rfl (Nat.le_of_ble_eq_true rfl) rfl dX6_widen_58 rfl ?_
          obtain ⟨M8, eM8⟩ : ∃ z9 : zMap, zup M7 a (.inr (6, [.int (iI (to)), .long (lI (wdC k b to)), va_rf (t)]) : va_E) = z9 := ⟨_, rfl⟩
          rw [eM8]
          have o14 : M8 a = some (.inr (6, [.int (iI (to)), .long (lI (wdC k b to)), va_rf (t)])) := eM8 ▸ zup_s
          exact z_vret C dX6_widen_61 (Nat.le_of_ble_eq_true rfl) (Nat.le_of_ble_eq_true rfl) ⟨rfl, (congrArg (fun M9 => zP θ M9 N) (by rw [← eM8, ← eM7] <;> (try simp only [zup_up]) <;> (first | done | rfl | (unfold wdC; rw [if_neg (by omega), if_neg (by omega)]))))⟩
    · skip
      refine z_aload_n C 16 0 dX6_widen_15 rfl rfl ?_
      refine z_aload_n C 17 0 dX6_widen_16 rfl rfl ?_
      refine z_callV (As := []) (rest := [.ref (a)]) C hκ hκl 20 (k6_real hT (a) (k) (b) (t) hM hk r_k) dX6_widen_17 q1728 q1618 q1619 q96 q1620 znX6_real (Nat.le_of_ble_eq_true rfl) (Nat.le_of_ble_eq_true rfl) (Nat.le_of_ble_eq_true rfl) (Nat.le_of_ble_eq_true rfl) (zrec_P hM) rfl rfl (Nat.le_of_ble_eq_true rfl) rfl (fun v9 Q9 h9 => ?_)
      obtain ⟨rfl, rfl⟩ := h9
      refine z_as (st' := [.double (rlD (k) (b)), .ref (a)]) rfl rfl rfl ?_
      refine z_callS (As := [.double (rlD (k) (b))]) (rest := [.ref (a)]) C hκ hκl 23 (kD_bits hT (rlD (k) (b)) (rlD_vf hk)) dX6_widen_20 q1729 q1561 q134 q1562 znJ16_doubleToLongBits (Nat.le_of_ble_eq_true rfl) (Nat.le_of_ble_eq_true rfl) (Nat.le_of_ble_eq_true rfl) (Nat.le_of_ble_eq_true rfl) rfl (Nat.le_of_ble_eq_true rfl) rfl (fun v9 Q9 h9 => ?_)
      obtain ⟨rfl, rfl⟩ := h9
      refine z_as (st' := [.long ((rlD (k) (b)).toInt64), .ref (a)]) rfl rfl rfl ?_
      rw [show (.long ((rlD (k) (b)).toInt64) : Value) = .long (lI (wdC k b to)) from congrArg (fun z9 => Value.long z9) ((lI_sI _).trans (congrArg lI (by clear C hκ hκl ; unfold wdC; rw [if_pos (by omega)])))]
      refine z_putf (fs' := [.int (iI (k)), .long (lI (wdC k b to)), va_rf (t)]) C hκ 26 1 zk_X6 hM (by decide) q248 (Or.inl rfl) rfl rfl rfl (Nat.le_of_ble_eq_true rfl) rfl dX6_widen_23 rfl ?_
      obtain ⟨M9, eM9⟩ : ∃ z9 : zMap, zup M a (.inr (6, [.int (iI (k)), .long (lI (wdC k b to)), va_rf (t)]) : va_E) = z9 := ⟨_, rfl⟩
      rw [eM9]
      have o15 : M9 a = some (.inr (6, [.int (iI (k)), .long (lI (wdC k b to)), va_rf (t)])) := eM9 ▸ zup_s
      refine z_goto C 56 dX6_widen_26 (by decide) ?_
      refine z_aload_n C 57 0 dX6_widen_56 rfl rfl ?_
      refine z_iload_n C 58 1 dX6_widen_57 rfl rfl ?_
      refine z_putf (fs' := [.int (iI (to)), .long (lI (wdC k b to)), va_rf (t)]) C hκ 61 0 zk_X6 o15 (by decide) q246 (Or.inl rfl) rfl rfl rfl (Nat.le_of_ble_eq_true rfl) rfl dX6_widen_58 rfl ?_
      obtain ⟨M10, eM10⟩ : ∃ z9 : zMap, zup M9 a (.inr (6, [.int (iI (to)), .long (lI (wdC k b to)), va_rf (t)]) : va_E) = z9 := ⟨_, rfl⟩
      rw [eM10]
      have o16 : M10 a = some (.inr (6, [.int (iI (to)), .long (lI (wdC k b to)), va_rf (t)])) := eM10 ▸ zup_s
      exact z_vret C dX6_widen_61 (Nat.le_of_ble_eq_true rfl) (Nat.le_of_ble_eq_true rfl) ⟨rfl, (congrArg (fun M9 => zP θ M9 N) (by rw [← eM10, ← eM9] <;> (try simp only [zup_up]) <;> (first | done | rfl | (unfold wdC; rw [if_neg (by omega), if_neg (by omega)]))))⟩
set_option maxRecDepth 100000 in
theorem k6_widenTo {l : Launch} {θ : zTh} {σ : xA} {w : mW} {Lf : Int → List Int} {M N : zMap} (hX : xM θ σ w (Lf) M) (hs : xS w) (hw : mWF w) (hT : zTb θ) (a : Nat) (k : Int) (b : Int) (t : Option Nat) (ty : Int)  (hM : M a = some (.inr (6, [.int (iI k), .long (lI b), va_rf t]))) (hk : nmOk k b) (r_k : inR k) (hty : 0 ≤ ty ∧ ty < w 0 0) : ZM θ l yX6_widenTo cX6_widenTo 2 none ⟨3, 0, 0, 82⟩ [.ref (a), .ref (σ 10 (ty))] (zP θ M N) (zFn none (zP θ (zup M a (.inr (6, [.int (iI (wtK k ty)), .long (lI (wtB k b ty)), va_rf t]))) N)) := by
  refine z_start (own := RX6) (nm := "widenTo") pnX6 rfl rfl (Nat.le_of_ble_eq_true rfl) ?_
  intro κ hκ hκl C
  change Z κ (zP θ M N) 0 0 0 [(0, .ref (a)), (1, .ref (σ 10 (ty)))] []
  have hS := hs.S
  have hB := hS.B
  obtain ⟨hB1, hB2, hB3, hB4, hB5, hB6⟩ := hS.B
  have hC := hS.C
  obtain ⟨h81, h82⟩ := hs.r8
  refine z_aload_n C 1 1 dX6_widenTo_0 rfl rfl ?_
  obtain ⟨f1a, f1b, f1c, f1d, f1e, f1f, f1g, f1h⟩ := hS.T (show 0 ≤ ty by omega) (by omega)
  obtain ⟨f1i, f1j, f1k, f1l⟩ := hs.ty (show 0 ≤ ty by omega) (by omega)
  refine xv_isReference (rest := []) C hκ hκl hX hs hw hT (ty)   ⟨(by omega), (by omega)⟩  4 dX6_widenTo_1 q1722 (Nat.le_of_ble_eq_true rfl) (Nat.le_of_ble_eq_true rfl) (Nat.le_of_ble_eq_true rfl) (Nat.le_of_ble_eq_true rfl) (Nat.le_of_ble_eq_true rfl) rfl ?_
  refine z_as (st' := [.int (iI (bI (rfB w (ty))))]) rfl rfl rfl ?_
  refine z_ifB_ne C 15 7 dX6_widenTo_4 (by decide) rfl (fun c2 => ?_) (fun c2 => ?_)
  · skip
    have c2b : (8 ≤ (ty) ∧ (ty) < w 0 0) := of_decide_eq_true c2
    exact z_vret C dX6_widenTo_15 (Nat.le_of_ble_eq_true rfl) (Nat.le_of_ble_eq_true rfl) ⟨rfl, (congrArg (fun M9 => zP θ M9 N) (by rw [show wtK k ty = k from if_pos (by omega), show wtB k b ty = b from if_pos (by omega), zup_id hM]))⟩
  · skip
    have c2b : ¬ (8 ≤ (ty) ∧ (ty) < w 0 0) := of_decide_eq_false c2
    refine z_aload_n C 8 0 dX6_widenTo_7 rfl rfl ?_
    refine z_aload_n C 9 1 dX6_widenTo_8 rfl rfl ?_
    refine xv_number (rest := [.ref (a)]) C hκ hκl hX hs hw hT (ty)   ⟨(by omega), (by omega)⟩  12 dX6_widenTo_9 q1723 (Nat.le_of_ble_eq_true rfl) (Nat.le_of_ble_eq_true rfl) (Nat.le_of_ble_eq_true rfl) (Nat.le_of_ble_eq_true rfl) (Nat.le_of_ble_eq_true rfl) rfl ?_
    refine z_as (st' := [.int (iI ((ty))), .ref (a)]) rfl rfl rfl ?_
    refine z_callV (As := [.int (iI ((ty)))]) (rest := []) C hκ hκl 15 (k6_widen hT (a) (k) (b) (t) ((ty)) ⟨by omega, by omega⟩ hM hk r_k) dX6_widenTo_12 q1724 q1725 q1726 q96 q1727 znX6_widen (Nat.le_of_ble_eq_true rfl) (Nat.le_of_ble_eq_true rfl) (Nat.le_of_ble_eq_true rfl) (Nat.le_of_ble_eq_true rfl) (zrec_P hM) rfl rfl (Nat.le_of_ble_eq_true rfl) rfl (fun v9 Q9 h9 => ?_)
    obtain ⟨rfl, rfl⟩ := h9
    obtain ⟨M1, eM1⟩ : ∃ z9 : zMap, zup M a (.inr (6, [.int (iI ((ty))), .long (lI (wdC (k) (b) ((ty)))), va_rf (t)]) : va_E) = z9 := ⟨_, rfl⟩
    rw [eM1]
    have o3 : M1 a = some (.inr (6, [.int (iI ((ty))), .long (lI (wdC (k) (b) ((ty)))), va_rf (t)])) := eM1 ▸ zup_s
    refine z_as (st' := []) rfl rfl rfl ?_
    exact z_vret C dX6_widenTo_15 (Nat.le_of_ble_eq_true rfl) (Nat.le_of_ble_eq_true rfl) ⟨rfl, (congrArg (fun M9 => zP θ M9 N) (by rw [← eM1]; rw [show wtK k ty = ty from if_neg (by omega), show wtB k b ty = wdC k b ty from if_neg (by omega)]))⟩
set_option maxRecDepth 100000 in
theorem k6_clear {l : Launch} {θ : zTh} {σ : xA} {w : mW} {Lf : Int → List Int} {M N : zMap} (hX : xM θ σ w (Lf) M) (hs : xS w) (hw : mWF w) (hT : zTb θ) (a : Nat) (k : Int) (b : Int) (t : Option Nat) (ty : Int)  (hM : M a = some (.inr (6, [.int (iI k), .long (lI b), va_rf t]))) (hty : -1 ≤ ty ∧ ty < w 0 0) : ZM θ l yX6_clear cX6_clear 2 none ⟨1, 0, 0, 20⟩ [.ref (a), va_rf (xo σ 10 (ty))] (zP θ M N) (zFn none (zP θ (zup M a (.inr (6, [.int (iI (clK ty)), .long (lI 0), .null]))) N)) := by
  refine z_start (own := RX6) (nm := "clear") pnX6 rfl rfl (by cases (xo σ 10 (ty)) <;> exact Nat.le_of_ble_eq_true rfl) ?_
  intro κ hκ hκl C
  refine z_as (lv' := [(0, .ref (a)), (1, va_rf (xo σ 10 (ty)))]) rfl (by cases (xo σ 10 (ty)) <;> rfl) rfl ?_
  change Z κ (zP θ M N) 0 0 0 [(0, .ref (a)), (1, va_rf (xo σ 10 (ty)))] []
  have hS := hs.S
  have hB := hS.B
  obtain ⟨hB1, hB2, hB3, hB4, hB5, hB6⟩ := hS.B
  have hC := hS.C
  obtain ⟨h81, h82⟩ := hs.r8
  refine z_aload_n C 1 0 dX6_clear_0 rfl rfl ?_
  refine z_aload_nq C 2 1 dX6_clear_1 rfl rfl ?_
  rcases Int.lt_or_le (ty) 0 with n1 | n1
  · skip
    rw [xo_n n1]
    refine z_as (st' := [.null, .ref (a)]) (lv' := [(0, .ref (a)), (1, .null)]) rfl rfl rfl ?_
    refine z_ifnonnullN C 5 dX6_clear_2 rfl ?_
    refine z_iconst C 6 dX6_clear_5 rfl ?_
    refine z_goto C 25 dX6_clear_6 (by decide) ?_
    rw [show (.int (iI (4)) : Value) = .int (iI (clK (ty))) from congrArg (fun z9 => Value.int (iI z9)) (by clear C hκ hκl hS hB hB1 hB2 hB3 hB4 hB5 hB6 hC hw hX hs hT h81 h82; unfold clK; first | rw [if_pos (by omega)] | rw [if_neg (by omega), if_pos (by omega)] | rw [if_neg (by omega), if_neg (by omega)])]
    refine z_putf (fs' := [.int (iI (clK (ty))), .long (lI (b)), va_rf (t)]) C hκ 28 0 zk_X6 hM (by decide) q246 (Or.inl rfl) rfl rfl rfl (Nat.le_of_ble_eq_true rfl) rfl dX6_clear_25 rfl ?_
    obtain ⟨M1, eM1⟩ : ∃ z9 : zMap, zup M a (.inr (6, [.int (iI (clK (ty))), .long (lI (b)), va_rf (t)]) : va_E) = z9 := ⟨_, rfl⟩
    rw [eM1]
    have o2 : M1 a = some (.inr (6, [.int (iI (clK (ty))), .long (lI (b)), va_rf (t)])) := eM1 ▸ zup_s
    refine z_aload_n C 29 0 dX6_clear_28 rfl rfl ?_
    refine z_lconst (x := 0) C 30 dX6_clear_29 rfl rfl ?_
    refine z_putf (fs' := [.int (iI (clK (ty))), .long (lI (0)), va_rf (t)]) C hκ 33 1 zk_X6 o2 (by decide) q248 (Or.inl rfl) rfl rfl rfl (Nat.le_of_ble_eq_true rfl) rfl dX6_clear_30 rfl ?_
    obtain ⟨M2, eM2⟩ : ∃ z9 : zMap, zup M1 a (.inr (6, [.int (iI (clK (ty))), .long (lI (0)), va_rf (t)]) : va_E) = z9 := ⟨_, rfl⟩
    rw [eM2]
    have o3 : M2 a = some (.inr (6, [.int (iI (clK (ty))), .long (lI (0)), va_rf (t)])) := eM2 ▸ zup_s
    refine z_aload_n C 34 0 dX6_clear_33 rfl rfl ?_
    refine z_null C 35 dX6_clear_34 rfl ?_
    refine z_putf (fs' := [.int (iI (clK (ty))), .long (lI (0)), .null]) C hκ 38 2 zk_X6 o3 (by decide) q252 (Or.inl rfl) rfl rfl rfl (Nat.le_of_ble_eq_true rfl) rfl dX6_clear_35 rfl ?_
    obtain ⟨M3, eM3⟩ : ∃ z9 : zMap, zup M2 a (.inr (6, [.int (iI (clK (ty))), .long (lI (0)), .null]) : va_E) = z9 := ⟨_, rfl⟩
    rw [eM3]
    have o4 : M3 a = some (.inr (6, [.int (iI (clK (ty))), .long (lI (0)), .null])) := eM3 ▸ zup_s
    exact z_vret C dX6_clear_38 (Nat.le_of_ble_eq_true rfl) (Nat.le_of_ble_eq_true rfl) ⟨rfl, (congrArg (fun M9 => zP θ M9 N) (by rw [← eM3, ← eM2, ← eM1] <;> (try simp only [zup_up])))⟩
  · skip
    rw [xo_y n1]
    refine z_as (st' := [.ref (σ 10 (ty)), .ref (a)]) (lv' := [(0, .ref (a)), (1, .ref (σ 10 (ty)))]) rfl rfl rfl ?_
    refine z_ifnonnull C 9 dX6_clear_2 (by decide) ?_
    refine z_aload_n C 10 1 dX6_clear_9 rfl rfl ?_
    obtain ⟨f5a, f5b, f5c, f5d, f5e, f5f, f5g, f5h⟩ := hS.T (show 0 ≤ ty by omega) (by omega)
    obtain ⟨f5i, f5j, f5k, f5l⟩ := hs.ty (show 0 ≤ ty by omega) (by omega)
    refine xv_isReference (rest := [.ref (a)]) C hκ hκl hX hs hw hT (ty)   ⟨(by omega), (by omega)⟩  13 dX6_clear_10 q1722 (Nat.le_of_ble_eq_true rfl) (Nat.le_of_ble_eq_true rfl) (Nat.le_of_ble_eq_true rfl) (Nat.le_of_ble_eq_true rfl) (Nat.le_of_ble_eq_true rfl) rfl ?_
    refine z_as (st' := [.int (iI (bI (rfB w (ty)))), .ref (a)]) rfl rfl rfl ?_
    refine z_ifB_eq C 21 16 dX6_clear_13 (by decide) rfl (fun c6 => ?_) (fun c6 => ?_)
    · skip
      have c6b : ¬ (8 ≤ (ty) ∧ (ty) < w 0 0) := of_decide_eq_false c6
      refine z_aload_n C 22 1 dX6_clear_21 rfl rfl ?_
      refine xv_number (rest := [.ref (a)]) C hκ hκl hX hs hw hT (ty)   ⟨(by omega), (by omega)⟩  25 dX6_clear_22 q1723 (Nat.le_of_ble_eq_true rfl) (Nat.le_of_ble_eq_true rfl) (Nat.le_of_ble_eq_true rfl) (Nat.le_of_ble_eq_true rfl) (Nat.le_of_ble_eq_true rfl) rfl ?_
      refine z_as (st' := [.int (iI ((ty))), .ref (a)]) rfl rfl rfl ?_
      rw [show (.int (iI ((ty))) : Value) = .int (iI (clK (ty))) from congrArg (fun z9 => Value.int (iI z9)) (by clear C hκ hκl hS hB hB1 hB2 hB3 hB4 hB5 hB6 hC hw hX hs hT h81 h82 f5a f5b f5c f5d f5e f5f f5g f5h f5i f5j f5k f5l; unfold clK; first | rw [if_pos (by omega)] | rw [if_neg (by omega), if_pos (by omega)] | rw [if_neg (by omega), if_neg (by omega)])]
      refine z_putf (fs' := [.int (iI (clK (ty))), .long (lI (b)), va_rf (t)]) C hκ 28 0 zk_X6 hM (by decide) q246 (Or.inl rfl) rfl rfl rfl (Nat.le_of_ble_eq_true rfl) rfl dX6_clear_25 rfl ?_
      obtain ⟨M4, eM4⟩ : ∃ z9 : zMap, zup M a (.inr (6, [.int (iI (clK (ty))), .long (lI (b)), va_rf (t)]) : va_E) = z9 := ⟨_, rfl⟩
      rw [eM4]
      have o7 : M4 a = some (.inr (6, [.int (iI (clK (ty))), .long (lI (b)), va_rf (t)])) := eM4 ▸ zup_s
      refine z_aload_n C 29 0 dX6_clear_28 rfl rfl ?_
      refine z_lconst (x := 0) C 30 dX6_clear_29 rfl rfl ?_
      refine z_putf (fs' := [.int (iI (clK (ty))), .long (lI (0)), va_rf (t)]) C hκ 33 1 zk_X6 o7 (by decide) q248 (Or.inl rfl) rfl rfl rfl (Nat.le_of_ble_eq_true rfl) rfl dX6_clear_30 rfl ?_
      obtain ⟨M5, eM5⟩ : ∃ z9 : zMap, zup M4 a (.inr (6, [.int (iI (clK (ty))), .long (lI (0)), va_rf (t)]) : va_E) = z9 := ⟨_, rfl⟩
      rw [eM5]
      have o8 : M5 a = some (.inr (6, [.int (iI (clK (ty))), .long (lI (0)), va_rf (t)])) := eM5 ▸ zup_s
      refine z_aload_n C 34 0 dX6_clear_33 rfl rfl ?_
      refine z_null C 35 dX6_clear_34 rfl ?_
      refine z_putf (fs' := [.int (iI (clK (ty))), .long (lI (0)), .null]) C hκ 38 2 zk_X6 o8 (by decide) q252 (Or.inl rfl) rfl rfl rfl (Nat.le_of_ble_eq_true rfl) rfl dX6_clear_35 rfl ?_
      obtain ⟨M6, eM6⟩ : ∃ z9 : zMap, zup M5 a (.inr (6, [.int (iI (clK (ty))), .long (lI (0)), .null]) : va_E) = z9 := ⟨_, rfl⟩
      rw [eM6]
      have o9 : M6 a = some (.inr (6, [.int (iI (clK (ty))), .long (lI (0)), .null])) := eM6 ▸ zup_s
      exact z_vret C dX6_clear_38 (Nat.le_of_ble_eq_true rfl) (Nat.le_of_ble_eq_true rfl) ⟨rfl, (congrArg (fun M9 => zP θ M9 N) (by rw [← eM6, ← eM5, ← eM4] <;> (try simp only [zup_up])))⟩
    · skip
      have c6b : (8 ≤ (ty) ∧ (ty) < w 0 0) := of_decide_eq_true c6
      refine z_bipush C 18 dX6_clear_16 (by decide) rfl ?_
      refine z_goto C 25 dX6_clear_18 (by decide) ?_
      rw [show (.int (iI (8)) : Value) = .int (iI (clK (ty))) from congrArg (fun z9 => Value.int (iI z9)) (by clear C hκ hκl hS hB hB1 hB2 hB3 hB4 hB5 hB6 hC hw hX hs hT h81 h82 f5a f5b f5c f5d f5e f5f f5g f5h f5i f5j f5k f5l; unfold clK; first | rw [if_pos (by omega)] | rw [if_neg (by omega), if_pos (by omega)] | rw [if_neg (by omega), if_neg (by omega)])]
      refine z_putf (fs' := [.int (iI (clK (ty))), .long (lI (b)), va_rf (t)]) C hκ 28 0 zk_X6 hM (by decide) q246 (Or.inl rfl) rfl rfl rfl (Nat.le_of_ble_eq_true rfl) rfl dX6_clear_25 rfl ?_
      obtain ⟨M7, eM7⟩ : ∃ z9 : zMap, zup M a (.inr (6, [.int (iI (clK (ty))), .long (lI (b)), va_rf (t)]) : va_E) = z9 := ⟨_, rfl⟩
      rw [eM7]
      have o10 : M7 a = some (.inr (6, [.int (iI (clK (ty))), .long (lI (b)), va_rf (t)])) := eM7 ▸ zup_s
      refine z_aload_n C 29 0 dX6_clear_28 rfl rfl ?_
      refine z_lconst (x := 0) C 30 dX6_clear_29 rfl rfl ?_
      refine z_putf (fs' := [.int (iI (clK (ty))), .long (lI (0)), va_rf (t)]) C hκ 33 1 zk_X6 o10 (by decide) q248 (Or.inl rfl) rfl rfl rfl (Nat.le_of_ble_eq_true rfl) rfl dX6_clear_30 rfl ?_
      obtain ⟨M8, eM8⟩ : ∃ z9 : zMap, zup M7 a (.inr (6, [.int (iI (clK (ty))), .long (lI (0)), va_rf (t)]) : va_E) = z9 := ⟨_, rfl⟩
      rw [eM8]
      have o11 : M8 a = some (.inr (6, [.int (iI (clK (ty))), .long (lI (0)), va_rf (t)])) := eM8 ▸ zup_s
      refine z_aload_n C 34 0 dX6_clear_33 rfl rfl ?_
      refine z_null C 35 dX6_clear_34 rfl ?_
      refine z_putf (fs' := [.int (iI (clK (ty))), .long (lI (0)), .null]) C hκ 38 2 zk_X6 o11 (by decide) q252 (Or.inl rfl) rfl rfl rfl (Nat.le_of_ble_eq_true rfl) rfl dX6_clear_35 rfl ?_
      obtain ⟨M9, eM9⟩ : ∃ z9 : zMap, zup M8 a (.inr (6, [.int (iI (clK (ty))), .long (lI (0)), .null]) : va_E) = z9 := ⟨_, rfl⟩
      rw [eM9]
      have o12 : M9 a = some (.inr (6, [.int (iI (clK (ty))), .long (lI (0)), .null])) := eM9 ▸ zup_s
      exact z_vret C dX6_clear_38 (Nat.le_of_ble_eq_true rfl) (Nat.le_of_ble_eq_true rfl) ⟨rfl, (congrArg (fun M9 => zP θ M9 N) (by rw [← eM9, ← eM8, ← eM7] <;> (try simp only [zup_up])))⟩
