/-! ===== save, walked ===== -/
theorem ft_rg {w : mW} {k b : Int} (h : ftB w k b = true) : (k = 1 → 0 ≤ b ∧ b ≤ 65535) ∧ (k = 2 → -128 ≤ b ∧ b ≤ 127) ∧ (k = 3 → -32768 ≤ b ∧ b ≤ 32767) := by
  unfold ftB at h
  refine ⟨fun e => ?_, fun e => ?_, fun e => ?_⟩ <;> subst e <;> simp at h <;> exact h
def svZ (k b z t : Int) : Int := if k = 8 then z else wdL b k t
theorem i2c_id {b : Int} (h : 0 ≤ b ∧ b ≤ 65535) : ((iI b).toUInt32 % 65536).toInt32 = iI b := by
  obtain ⟨q, rfl⟩ := Int.eq_ofNat_of_zero_le h.1
  have h1 : q < 65536 := by have := h.2; omega
  apply Int32.toBitVec_inj.mp
  apply BitVec.eq_of_toNat_eq
  have e1 : (iI (q : Int)).toBitVec.toNat = q := by
    show (BitVec.ofInt 32 (q : Int)).toNat = q
    rw [BitVec.toNat_ofInt]
    omega
  show ((iI (q : Int)).toUInt32 % 65536).toNat = _
  rw [UInt32.toNat_mod]
  show (iI (q : Int)).toBitVec.toNat % 65536 = _
  rw [e1]
  omega

set_option maxRecDepth 100000 in
theorem k0_save {l : Launch} {θ : zTh} {σ : xA} {w : mW} {M N : zMap} (hX : xM θ σ w (xL w) M) (hs : xS w) (hw : mWF w) (hT : zTb θ) (hZ : zTx θ l) (a : Nat) (t : Int) (ln : Nat) (v : Nat → Int) (e : va_E) (i : Int) (z : Int) (c : Nat) (k0 : Int) (b0 : Int) (t0 : Option Nat) (r_i : inR i) (hM : M a = some e) (hr : xRow θ σ w t ln v e) (hln : ln ≤ 1000) (ht9 : t < w 0 0) (hk0 : 0 ≤ k0 ∧ k0 ≤ 8) (hlb : inL b0) (hft : k0 < 8 → ftB w k0 b0 = true) (h8z : k0 = 8 → 8 ≤ t → t0 = xo σ 30 z ∧ goB w z t) (hTh : ∀ x : Int, 0 ≤ x → x < w 27 0 → w 29 x = -1 → w 1 (w 28 x) ≠ 4) (hC9 : M c = some (.inr (6, [.int (iI k0), .long (lI b0), va_rf t0]))) : zMX θ l yX0_save (ws_ yX0_save cX0_save 3 none) ⟨10, 3, 210, 10270⟩ [.ref (a), .int (iI (i)), .ref (c)] (zP θ M N) (fun v9 Q9 => v9 = none ∧ svE t ln i k0 = 0 ∧ ∃ e' : va_E, xRow θ σ w t ln (svU v i (svZ k0 b0 z t)) e' ∧ Q9 = zP θ (zup M a e') N) (fun E9 b9 Q9 => ∃ c9 : Int, svE t ln i k0 = c9 ∧ c9 ≠ 0 ∧ xEz E9 c9 ∧ Q9 = zP θ M N) := by
  refine zx_start (own := RX0) (nm := "save") pnX0 rfl rfl (Nat.le_of_ble_eq_true rfl) ?_
  intro κ hκ hκl C XX
  change Z κ (zP θ M N) 0 0 0 [(0, .ref (a)), (1, .int (iI (i))), (2, .ref (c))] []
  have hS := hs.S
  have hB := hS.B
  obtain ⟨hB1, hB2, hB3, hB4, hB5, hB6⟩ := hS.B
  have hC := hS.C
  obtain ⟨h81, h82⟩ := hs.r8
  have hrg9 : (k0 = 1 → 0 ≤ b0 ∧ b0 ≤ 65535) ∧ (k0 = 2 → -128 ≤ b0 ∧ b0 ≤ 127) ∧ (k0 = 3 → -32768 ≤ b0 ∧ b0 ≤ 32767) := ⟨fun h => (ft_rg (hft (by omega))).1 h, fun h => (ft_rg (hft (by omega))).2.1 h, fun h => (ft_rg (hft (by omega))).2.2 h⟩
  refine z_aload_n C 1 2 dX0_save_0 rfl rfl ?_
  refine z_getf C hκ (v := .int (iI (k0))) 4 0 zk_X6 hC9 (by decide) q247 (Or.inl rfl) rfl dX0_save_1 rfl ?_
  have c1r : inR (k0) := ⟨by omega, by omega⟩
  rcases (show k0 = 0 ∨ k0 = 1 ∨ k0 = 2 ∨ k0 = 3 ∨ k0 = 4 ∨ k0 = 5 ∨ k0 = 6 ∨ k0 = 7 ∨ (k0 < 0 ∨ 7 < k0) by omega) with c1 | c1 | c1 | c1 | c1 | c1 | c1 | c1 | c1
  · skip
    refine z_tsIn C (k0) 52 (off := 48) dX0_save_4 c1r (by omega) (by omega) (by rw [c1]; rfl) (by decide) ?_
    refine z_aload_n C 53 0 dX0_save_52 rfl rfl ?_
    refine z_iload_n C 54 1 dX0_save_53 rfl rfl ?_
    refine z_aload_n C 55 2 dX0_save_54 rfl rfl ?_
    refine z_getf C hκ (v := .long (lI (b0))) 58 1 zk_X6 hC9 (by decide) q250 (Or.inl rfl) rfl dX0_save_55 rfl ?_
    refine z_lconst (x := 0) C 59 dX0_save_58 rfl rfl ?_
    refine z_lcmp C 60 dX0_save_59 hlb ⟨by decide, by decide⟩ rfl ?_
    refine z_ifC_eq C 67 63 dX0_save_60 (by decide) rfl (fun c2 => ?_) (fun c2 => ?_)
    · skip
      refine z_iconst C 68 dX0_save_67 rfl ?_
      have hb9 : xVok 0 b0 := by have h := ft_ok hk0.1 hlb (hft (by omega)); rw [c1] at h; exact h
      have hv9 : b0 = 0 := by have h := hb9.1 rfl; omega
      rw [show (.int (iI (0)) : Value) = sbV 0 b0 from by rw [hv9]; rfl]
      refine x_sv0 (rest := []) (e := e) C hκ hκl hT hZ 71 hM hr hb9 hln r_i dX0_save_68 (Nat.le_of_ble_eq_true rfl) (Nat.le_of_ble_eq_true rfl) (Nat.le_of_ble_eq_true rfl) (Nat.le_of_ble_eq_true rfl) (Nat.le_of_ble_eq_true rfl) rfl (fun e9 h3 hr9 => ?_) (fun E9 c9 b9 hE9 hc9 hz9 => ?_)
      rotate_left 1
      · skip
        refine zx_out C hκ hT XX (fun z9 h9 => by cases h9) ⟨c9, (by rw [c1]; exact hE9), hc9, hz9, rfl⟩ (Nat.le_of_ble_eq_true rfl) (Nat.le_of_ble_eq_true rfl)
      refine z_as (st' := []) rfl rfl rfl ?_
      refine z_goto C 177 dX0_save_71 (by decide) ?_
      exact z_vret C dX0_save_177 (Nat.le_of_ble_eq_true rfl) (Nat.le_of_ble_eq_true rfl) ⟨rfl, (by rw [c1]; exact h3), e9, (by unfold svZ; rw [if_neg (by omega), c1]; exact hr9), rfl⟩
    · skip
      refine z_iconst C 64 dX0_save_63 rfl ?_
      refine z_goto C 68 dX0_save_64 (by decide) ?_
      have hb9 : xVok 0 b0 := by have h := ft_ok hk0.1 hlb (hft (by omega)); rw [c1] at h; exact h
      have hv9 : b0 = 1 := by have h := hb9.1 rfl; omega
      rw [show (.int (iI (1)) : Value) = sbV 0 b0 from by rw [hv9]; rfl]
      refine x_sv0 (rest := []) (e := e) C hκ hκl hT hZ 71 hM hr hb9 hln r_i dX0_save_68 (Nat.le_of_ble_eq_true rfl) (Nat.le_of_ble_eq_true rfl) (Nat.le_of_ble_eq_true rfl) (Nat.le_of_ble_eq_true rfl) (Nat.le_of_ble_eq_true rfl) rfl (fun e9 h4 hr9 => ?_) (fun E9 c9 b9 hE9 hc9 hz9 => ?_)
      rotate_left 1
      · skip
        refine zx_out C hκ hT XX (fun z9 h9 => by cases h9) ⟨c9, (by rw [c1]; exact hE9), hc9, hz9, rfl⟩ (Nat.le_of_ble_eq_true rfl) (Nat.le_of_ble_eq_true rfl)
      refine z_as (st' := []) rfl rfl rfl ?_
      refine z_goto C 177 dX0_save_71 (by decide) ?_
      exact z_vret C dX0_save_177 (Nat.le_of_ble_eq_true rfl) (Nat.le_of_ble_eq_true rfl) ⟨rfl, (by rw [c1]; exact h4), e9, (by unfold svZ; rw [if_neg (by omega), c1]; exact hr9), rfl⟩
  · skip
    refine z_tsIn C (k0) 74 (off := 70) dX0_save_4 c1r (by omega) (by omega) (by rw [c1]; rfl) (by decide) ?_
    refine z_aload_n C 75 0 dX0_save_74 rfl rfl ?_
    refine z_iload_n C 76 1 dX0_save_75 rfl rfl ?_
    refine z_aload_n C 77 2 dX0_save_76 rfl rfl ?_
    refine z_getf C hκ (v := .long (lI (b0))) 80 1 zk_X6 hC9 (by decide) q250 (Or.inl rfl) rfl dX0_save_77 rfl ?_
    refine z_l2i C 81 dX0_save_80 rfl ?_
    refine z_i2c C 82 dX0_save_81 rfl ?_
    rw [i2c_id (hrg9.1 (by omega))]
    refine z_as (st' := [.int (iI (b0)), .int (iI (i)), .ref (a)]) rfl rfl rfl ?_
    have hb9 : xVok 1 b0 := by have h := ft_ok hk0.1 hlb (hft (by omega)); rw [c1] at h; exact h
    rw [show (.int (iI (b0)) : Value) = sbV 1 b0 from rfl]
    refine x_sv1 (rest := []) (e := e) C hκ hκl hT hZ 85 hM hr hb9 (hrg9.1 (by omega)) hln r_i dX0_save_82 (Nat.le_of_ble_eq_true rfl) (Nat.le_of_ble_eq_true rfl) (Nat.le_of_ble_eq_true rfl) (Nat.le_of_ble_eq_true rfl) (Nat.le_of_ble_eq_true rfl) rfl (fun e9 h5 hr9 => ?_) (fun E9 c9 b9 hE9 hc9 hz9 => ?_)
    rotate_left 1
    · skip
      refine zx_out C hκ hT XX (fun z9 h9 => by cases h9) ⟨c9, (by rw [c1]; exact hE9), hc9, hz9, rfl⟩ (Nat.le_of_ble_eq_true rfl) (Nat.le_of_ble_eq_true rfl)
    refine z_as (st' := []) rfl rfl rfl ?_
    refine z_goto C 177 dX0_save_85 (by decide) ?_
    exact z_vret C dX0_save_177 (Nat.le_of_ble_eq_true rfl) (Nat.le_of_ble_eq_true rfl) ⟨rfl, (by rw [c1]; exact h5), e9, (by unfold svZ; rw [if_neg (by omega), c1]; exact hr9), rfl⟩
  · skip
    refine z_tsIn C (k0) 88 (off := 84) dX0_save_4 c1r (by omega) (by omega) (by rw [c1]; rfl) (by decide) ?_
    refine z_aload_n C 89 0 dX0_save_88 rfl rfl ?_
    refine z_iload_n C 90 1 dX0_save_89 rfl rfl ?_
    refine z_aload_n C 91 2 dX0_save_90 rfl rfl ?_
    refine z_getf C hκ (v := .long (lI (b0))) 94 1 zk_X6 hC9 (by decide) q250 (Or.inl rfl) rfl dX0_save_91 rfl ?_
    refine z_l2i C 95 dX0_save_94 rfl ?_
    refine z_i2b C 96 dX0_save_95 rfl ?_
    refine z_as (st' := [.int (iI (w8 (b0))), .int (iI (i)), .ref (a)]) rfl rfl (congrArg (fun z9 => ([.int z9, .int (iI (i)), .ref (a)] : List Value)) (iI_w8 _).symm) ?_
    have hb9 : xVok 2 b0 := by have h := ft_ok hk0.1 hlb (hft (by omega)); rw [c1] at h; exact h
    rw [show (.int (iI (w8 (b0))) : Value) = sbV 2 b0 from by rw [← (w8_iff.mpr (hrg9.2.1 (by omega)))]; rfl]
    refine x_sv2 (rest := []) (e := e) C hκ hκl hT hZ 99 hM hr hb9 (hrg9.2.1 (by omega)) hln r_i dX0_save_96 (Nat.le_of_ble_eq_true rfl) (Nat.le_of_ble_eq_true rfl) (Nat.le_of_ble_eq_true rfl) (Nat.le_of_ble_eq_true rfl) (Nat.le_of_ble_eq_true rfl) rfl (fun e9 h6 hr9 => ?_) (fun E9 c9 b9 hE9 hc9 hz9 => ?_)
    rotate_left 1
    · skip
      refine zx_out C hκ hT XX (fun z9 h9 => by cases h9) ⟨c9, (by rw [c1]; exact hE9), hc9, hz9, rfl⟩ (Nat.le_of_ble_eq_true rfl) (Nat.le_of_ble_eq_true rfl)
    refine z_as (st' := []) rfl rfl rfl ?_
    refine z_goto C 177 dX0_save_99 (by decide) ?_
    exact z_vret C dX0_save_177 (Nat.le_of_ble_eq_true rfl) (Nat.le_of_ble_eq_true rfl) ⟨rfl, (by rw [c1]; exact h6), e9, (by unfold svZ; rw [if_neg (by omega), c1]; exact hr9), rfl⟩
  · skip
    refine z_tsIn C (k0) 102 (off := 98) dX0_save_4 c1r (by omega) (by omega) (by rw [c1]; rfl) (by decide) ?_
    refine z_aload_n C 103 0 dX0_save_102 rfl rfl ?_
    refine z_iload_n C 104 1 dX0_save_103 rfl rfl ?_
    refine z_aload_n C 105 2 dX0_save_104 rfl rfl ?_
    refine z_getf C hκ (v := .long (lI (b0))) 108 1 zk_X6 hC9 (by decide) q250 (Or.inl rfl) rfl dX0_save_105 rfl ?_
    refine z_l2i C 109 dX0_save_108 rfl ?_
    refine z_i2s C 110 dX0_save_109 rfl ?_
    refine z_as (st' := [.int (iI (w16 (b0))), .int (iI (i)), .ref (a)]) rfl rfl (congrArg (fun z9 => ([.int z9, .int (iI (i)), .ref (a)] : List Value)) (iI_w16 _).symm) ?_
    have hb9 : xVok 3 b0 := by have h := ft_ok hk0.1 hlb (hft (by omega)); rw [c1] at h; exact h
    rw [show (.int (iI (w16 (b0))) : Value) = sbV 3 b0 from by rw [← (w16_iff.mpr (hrg9.2.2 (by omega)))]; rfl]
    refine x_sv3 (rest := []) (e := e) C hκ hκl hT hZ 113 hM hr hb9 (hrg9.2.2 (by omega)) hln r_i dX0_save_110 (Nat.le_of_ble_eq_true rfl) (Nat.le_of_ble_eq_true rfl) (Nat.le_of_ble_eq_true rfl) (Nat.le_of_ble_eq_true rfl) (Nat.le_of_ble_eq_true rfl) rfl (fun e9 h7 hr9 => ?_) (fun E9 c9 b9 hE9 hc9 hz9 => ?_)
    rotate_left 1
    · skip
      refine zx_out C hκ hT XX (fun z9 h9 => by cases h9) ⟨c9, (by rw [c1]; exact hE9), hc9, hz9, rfl⟩ (Nat.le_of_ble_eq_true rfl) (Nat.le_of_ble_eq_true rfl)
    refine z_as (st' := []) rfl rfl rfl ?_
    refine z_goto C 177 dX0_save_113 (by decide) ?_
    exact z_vret C dX0_save_177 (Nat.le_of_ble_eq_true rfl) (Nat.le_of_ble_eq_true rfl) ⟨rfl, (by rw [c1]; exact h7), e9, (by unfold svZ; rw [if_neg (by omega), c1]; exact hr9), rfl⟩
  · skip
    refine z_tsIn C (k0) 116 (off := 112) dX0_save_4 c1r (by omega) (by omega) (by rw [c1]; rfl) (by decide) ?_
    refine z_aload_n C 117 0 dX0_save_116 rfl rfl ?_
    refine z_iload_n C 118 1 dX0_save_117 rfl rfl ?_
    refine z_aload_n C 119 2 dX0_save_118 rfl rfl ?_
    refine z_getf C hκ (v := .long (lI (b0))) 122 1 zk_X6 hC9 (by decide) q250 (Or.inl rfl) rfl dX0_save_119 rfl ?_
    refine z_l2i C 123 dX0_save_122 rfl ?_
    have hb9 : xVok 4 b0 := by have h := ft_ok hk0.1 hlb (hft (by omega)); rw [c1] at h; exact h
    rw [show (.int (iI (b0)) : Value) = sbV 4 b0 from rfl]
    refine x_sv4 (rest := []) (e := e) C hκ hκl hT hZ 126 hM hr hb9 hln r_i dX0_save_123 (Nat.le_of_ble_eq_true rfl) (Nat.le_of_ble_eq_true rfl) (Nat.le_of_ble_eq_true rfl) (Nat.le_of_ble_eq_true rfl) (Nat.le_of_ble_eq_true rfl) rfl (fun e9 h8 hr9 => ?_) (fun E9 c9 b9 hE9 hc9 hz9 => ?_)
    rotate_left 1
    · skip
      refine zx_out C hκ hT XX (fun z9 h9 => by cases h9) ⟨c9, (by rw [c1]; exact hE9), hc9, hz9, rfl⟩ (Nat.le_of_ble_eq_true rfl) (Nat.le_of_ble_eq_true rfl)
    refine z_as (st' := []) rfl rfl rfl ?_
    refine z_goto C 177 dX0_save_126 (by decide) ?_
    exact z_vret C dX0_save_177 (Nat.le_of_ble_eq_true rfl) (Nat.le_of_ble_eq_true rfl) ⟨rfl, (by rw [c1]; exact h8), e9, (by unfold svZ; rw [if_neg (by omega), c1]; exact hr9), rfl⟩
  · skip
    refine z_tsIn C (k0) 129 (off := 125) dX0_save_4 c1r (by omega) (by omega) (by rw [c1]; rfl) (by decide) ?_
    refine z_aload_n C 130 0 dX0_save_129 rfl rfl ?_
    refine z_iload_n C 131 1 dX0_save_130 rfl rfl ?_
    refine z_aload_n C 132 2 dX0_save_131 rfl rfl ?_
    refine z_getf C hκ (v := .long (lI (b0))) 135 1 zk_X6 hC9 (by decide) q250 (Or.inl rfl) rfl dX0_save_132 rfl ?_
    have hb9 : xVok 5 b0 := by have h := ft_ok hk0.1 hlb (hft (by omega)); rw [c1] at h; exact h
    rw [show (.long (lI (b0)) : Value) = sbV 5 b0 from rfl]
    refine x_sv5 (rest := []) (e := e) C hκ hκl hT hZ 138 hM hr hb9 hln r_i dX0_save_135 (Nat.le_of_ble_eq_true rfl) (Nat.le_of_ble_eq_true rfl) (Nat.le_of_ble_eq_true rfl) (Nat.le_of_ble_eq_true rfl) (Nat.le_of_ble_eq_true rfl) rfl (fun e9 h9 hr9 => ?_) (fun E9 c9 b9 hE9 hc9 hz9 => ?_)
    rotate_left 1
    · skip
      refine zx_out C hκ hT XX (fun z9 h9 => by cases h9) ⟨c9, (by rw [c1]; exact hE9), hc9, hz9, rfl⟩ (Nat.le_of_ble_eq_true rfl) (Nat.le_of_ble_eq_true rfl)
    refine z_as (st' := []) rfl rfl rfl ?_
    refine z_goto C 177 dX0_save_138 (by decide) ?_
    exact z_vret C dX0_save_177 (Nat.le_of_ble_eq_true rfl) (Nat.le_of_ble_eq_true rfl) ⟨rfl, (by rw [c1]; exact h9), e9, (by unfold svZ; rw [if_neg (by omega), c1]; exact hr9), rfl⟩
  · skip
    refine z_tsIn C (k0) 141 (off := 137) dX0_save_4 c1r (by omega) (by omega) (by rw [c1]; rfl) (by decide) ?_
    refine z_aload_n C 142 0 dX0_save_141 rfl rfl ?_
    refine z_iload_n C 143 1 dX0_save_142 rfl rfl ?_
    refine z_aload_n C 144 2 dX0_save_143 rfl rfl ?_
    refine z_callV (As := []) (rest := [.int (iI (i)), .ref (a)]) C hκ hκl 147 (k6_single hT (c) (k0) (b0) (t0) hC9 (ft_ok hk0.1 hlb (hft (by omega))).2.2.2 ⟨by omega, by omega⟩) dX0_save_144 q1607 q1608 q1609 q96 q1610 znX6_single (Nat.le_of_ble_eq_true rfl) (Nat.le_of_ble_eq_true rfl) (Nat.le_of_ble_eq_true rfl) (Nat.le_of_ble_eq_true rfl) (zrec_P hC9) rfl rfl (Nat.le_of_ble_eq_true rfl) rfl (fun v9 Q9 h9 => ?_)
    obtain ⟨rfl, rfl⟩ := h9
    refine z_as (st' := [.float (sgF (k0) (b0)), .int (iI (i)), .ref (a)]) rfl rfl rfl ?_
    have hb9 : xVok 6 b0 := by have h := ft_ok hk0.1 hlb (hft (by omega)); rw [c1] at h; exact h
    rw [show (.float (sgF (k0) (b0)) : Value) = sbV 6 b0 from congrArg Value.float (by unfold sgF; rw [if_pos (by omega)])]
    refine x_sv6 (rest := []) (e := e) C hκ hκl hT hZ 150 hM hr hb9 hln r_i dX0_save_147 (Nat.le_of_ble_eq_true rfl) (Nat.le_of_ble_eq_true rfl) (Nat.le_of_ble_eq_true rfl) (Nat.le_of_ble_eq_true rfl) (Nat.le_of_ble_eq_true rfl) rfl (fun e9 h10 hr9 => ?_) (fun E9 c9 b9 hE9 hc9 hz9 => ?_)
    rotate_left 1
    · skip
      refine zx_out C hκ hT XX (fun z9 h9 => by cases h9) ⟨c9, (by rw [c1]; exact hE9), hc9, hz9, rfl⟩ (Nat.le_of_ble_eq_true rfl) (Nat.le_of_ble_eq_true rfl)
    refine z_as (st' := []) rfl rfl rfl ?_
    refine z_goto C 177 dX0_save_150 (by decide) ?_
    exact z_vret C dX0_save_177 (Nat.le_of_ble_eq_true rfl) (Nat.le_of_ble_eq_true rfl) ⟨rfl, (by rw [c1]; exact h10), e9, (by unfold svZ; rw [if_neg (by omega), c1]; exact hr9), rfl⟩
  · skip
    refine z_tsIn C (k0) 153 (off := 149) dX0_save_4 c1r (by omega) (by omega) (by rw [c1]; rfl) (by decide) ?_
    refine z_aload_n C 154 0 dX0_save_153 rfl rfl ?_
    refine z_iload_n C 155 1 dX0_save_154 rfl rfl ?_
    refine z_aload_n C 156 2 dX0_save_155 rfl rfl ?_
    refine z_callV (As := []) (rest := [.int (iI (i)), .ref (a)]) C hκ hκl 159 (k6_real hT (c) (k0) (b0) (t0) hC9 (ft_ok hk0.1 hlb (hft (by omega))).2.2.2 ⟨by omega, by omega⟩) dX0_save_156 q1617 q1618 q1619 q96 q1620 znX6_real (Nat.le_of_ble_eq_true rfl) (Nat.le_of_ble_eq_true rfl) (Nat.le_of_ble_eq_true rfl) (Nat.le_of_ble_eq_true rfl) (zrec_P hC9) rfl rfl (Nat.le_of_ble_eq_true rfl) rfl (fun v9 Q9 h9 => ?_)
    obtain ⟨rfl, rfl⟩ := h9
    refine z_as (st' := [.double (rlD (k0) (b0)), .int (iI (i)), .ref (a)]) rfl rfl rfl ?_
    have hb9 : xVok 7 b0 := by have h := ft_ok hk0.1 hlb (hft (by omega)); rw [c1] at h; exact h
    rw [show (.double (rlD (k0) (b0)) : Value) = sbV 7 b0 from congrArg Value.double (by unfold rlD; rw [if_pos (by omega)])]
    refine x_sv7 (rest := []) (e := e) C hκ hκl hT hZ 162 hM hr hb9 hln r_i dX0_save_159 (Nat.le_of_ble_eq_true rfl) (Nat.le_of_ble_eq_true rfl) (Nat.le_of_ble_eq_true rfl) (Nat.le_of_ble_eq_true rfl) (Nat.le_of_ble_eq_true rfl) rfl (fun e9 h11 hr9 => ?_) (fun E9 c9 b9 hE9 hc9 hz9 => ?_)
    rotate_left 1
    · skip
      refine zx_out C hκ hT XX (fun z9 h9 => by cases h9) ⟨c9, (by rw [c1]; exact hE9), hc9, hz9, rfl⟩ (Nat.le_of_ble_eq_true rfl) (Nat.le_of_ble_eq_true rfl)
    refine z_as (st' := []) rfl rfl rfl ?_
    refine z_goto C 177 dX0_save_162 (by decide) ?_
    exact z_vret C dX0_save_177 (Nat.le_of_ble_eq_true rfl) (Nat.le_of_ble_eq_true rfl) ⟨rfl, (by rw [c1]; exact h11), e9, (by unfold svZ; rw [if_neg (by omega), c1]; exact hr9), rfl⟩
  · skip
    refine z_tsOut C 165 dX0_save_4 c1r c1 (by decide) ?_
    refine z_aload_n C 166 0 dX0_save_165 rfl rfl ?_
    refine zx_callS (As := [.ref (a)]) (rest := []) C hκ hκl 169 (k0_references hT hZ (a) (t) (ln) (v) (e) hM hr) dX0_save_166 q1570 q1571 q90 q1572 znX0_references (Nat.le_of_ble_eq_true rfl) (Nat.le_of_ble_eq_true rfl) (Nat.le_of_ble_eq_true rfl) (Nat.le_of_ble_eq_true rfl) rfl (Nat.le_of_ble_eq_true rfl) rfl (fun v9 Q9 h9 => ?_) (fun E9 b9 Q9 h9 => ?_)
    rotate_left 1
    · skip
      obtain ⟨hnr12, er12, rfl⟩ := h9
      refine zx_out C hκ hT XX (fun z9 h9 => by cases h9) ⟨2, (by rw [show k0 = 8 by omega]; exact if_pos (Or.inl ⟨rfl, by omega⟩)), by decide, er12, rfl⟩ (Nat.le_of_ble_eq_true rfl) (Nat.le_of_ble_eq_true rfl)
    obtain ⟨rfl, hnr13, rfl⟩ := h9
    refine z_as (st' := [.ref (a)]) rfl rfl rfl ?_
    refine z_widen (n' := 1) (k' := 6) (Nat.le_refl _) (Nat.le_refl _) ?_
    refine z_iload_n C 170 1 dX0_save_169 rfl rfl ?_
    refine z_aload_n C 171 2 dX0_save_170 rfl rfl ?_
    refine z_getf C hκ (v := va_rf (t0)) 174 2 zk_X6 hC9 (by decide) q254 (Or.inl rfl) rfl dX0_save_171 rfl ?_
    obtain ⟨ht09, hgo9⟩ := h8z (by omega) hnr13
    rw [ht09]
    refine x_sv8 (rest := []) (e := e) C hκ hκl hT hZ hX hs 177 hM hr hnr13 ht9 hgo9 hTh hln r_i dX0_save_174 (Nat.le_of_ble_eq_true rfl) (Nat.le_of_ble_eq_true rfl) (Nat.le_of_ble_eq_true rfl) (Nat.le_of_ble_eq_true rfl) (Nat.le_of_ble_eq_true rfl) rfl (fun e9 h14 hr9 => ?_) (fun E9 c9 b9 hE9 hc9 hz9 => ?_)
    rotate_left 1
    · skip
      refine zx_out C hκ hT XX (fun z9 h9 => by cases h9) ⟨c9, (by rw [show k0 = 8 by omega]; exact hE9), hc9, hz9, rfl⟩ (Nat.le_of_ble_eq_true rfl) (Nat.le_of_ble_eq_true rfl)
    refine z_as (st' := []) rfl rfl rfl ?_
    exact z_vret C dX0_save_177 (Nat.le_of_ble_eq_true rfl) (Nat.le_of_ble_eq_true rfl) ⟨rfl, (by rw [show k0 = 8 by omega]; exact h14), e9, (by unfold svZ; rw [if_pos (by omega)]; exact hr9), rfl⟩
