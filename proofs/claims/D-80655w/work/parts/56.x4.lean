def w8 (z : Int) : Int := ((iI z).toInt8.toInt32).toInt
def w16 (z : Int) : Int := ((iI z).toInt16.toInt32).toInt
theorem iI_w8 (z : Int) : iI (w8 z) = (iI z).toInt8.toInt32 := (iI_of _).symm
theorem iI_w16 (z : Int) : iI (w16 z) = (iI z).toInt16.toInt32 := (iI_of _).symm
theorem w8_R (z : Int) : inR (w8 z) := inR_of _
theorem w16_R (z : Int) : inR (w16 z) := inR_of _
theorem w8_bm (b : Int) : w8 b = b.bmod 256 := by
  unfold w8
  rw [Int8.toInt_toInt32, Int32.toInt_toInt8]
  show ((Int32.ofInt b).toInt).bmod _ = _
  rw [Int32.toInt_ofInt]
  exact Int.bmod_bmod_of_dvd (by decide)
theorem w16_bm (b : Int) : w16 b = b.bmod 65536 := by
  unfold w16
  rw [Int16.toInt_toInt32, Int32.toInt_toInt16]
  show ((Int32.ofInt b).toInt).bmod _ = _
  rw [Int32.toInt_ofInt]
  exact Int.bmod_bmod_of_dvd (by decide)
theorem w32_bm (b : Int) : w32 b = b.bmod 4294967296 := by
  unfold w32
  show ((Int32.ofInt b).toInt) = _
  rw [Int32.toInt_ofInt]
theorem w8_iff {b : Int} : b = w8 b ↔ -128 ≤ b ∧ b ≤ 127 := by
  rw [w8_bm]; unfold Int.bmod; simp only; omega
theorem w16_iff {b : Int} : b = w16 b ↔ -32768 ≤ b ∧ b ≤ 32767 := by
  rw [w16_bm]; unfold Int.bmod; simp only; omega
theorem w32_iff {b : Int} : b = w32 b ↔ -2147483648 ≤ b ∧ b ≤ 2147483647 := by
  rw [w32_bm]; unfold Int.bmod; simp only; omega
theorem ifI_x {w : mW} (t m : Int) : True := trivial
theorem abI_in {w : mW} {t k : Int} (ht : 0 ≤ t ∧ t < w 0 0) (hk : 0 ≤ k ∧ k ≤ 9) : abI w t k = if k = 0 then w 1 t else if k = 1 then w 2 t else if k = 2 then w 4 t else if k = 3 then w 3 t else if k = 4 then w 6 t else if k = 5 then w 10 t else if k = 6 then bI (ccB w t) else if k - 7 < w 6 t then w 7 (3 * t + (k - 7)) else -1 := by
  unfold abI tyB; rw [if_neg (by simp; omega), show 3 * t + (k - 7) = 3 * t + k - 7 by omega]

set_option maxRecDepth 100000 in
theorem k17_requireNonNull {l : Launch} {θ : zTh} {Pic : Heap → Prop} (hT : zTb θ) (a : Nat)   : ZM θ l yJ17_requireNonNull cJ17_requireNonNull 1 (some (.object "java/lang/Object")) ⟨0, 0, 0, 0⟩ [.ref (a)] (Pic) (zFn (some (.ref (a))) (Pic)) := by
  refine z_start (own := RJ17) (nm := "requireNonNull") pnJ17 rfl rfl (Nat.le_of_ble_eq_true rfl) ?_
  intro κ hκ hκl C
  change Z κ (Pic) 0 0 0 [(0, .ref (a))] []
  refine z_aload_n C 1 0 dJ17_requireNonNull_0 rfl rfl ?_
  refine z_ifnonnull C 12 dJ17_requireNonNull_1 (by decide) ?_
  refine z_aload_n C 13 0 dJ17_requireNonNull_12 rfl rfl ?_
  exact z_aret C dJ17_requireNonNull_13 (Or.inl ⟨_, rfl⟩) (Or.inr ⟨_, rfl⟩) (Nat.le_of_ble_eq_true rfl) (Nat.le_of_ble_eq_true rfl) ⟨congrArg some (rfl), rfl⟩
set_option maxRecDepth 100000 in
theorem k0_about {l : Launch} {θ : zTh} {σ : xA} {w : mW} {M N : zMap} (hX : xM θ σ w (xL w) M) (hs : xS w) (hw : mWF w) (hT : zTb θ) (t : Int) (k : Int) (r_t : inR t) (r_k : inR k)  : ZM θ l yX0_about cX0_about 4 (some .int) ⟨248, 0, 0, 2553⟩ [.ref (σ 0 (0)), .int (iI (t)), .int (iI (k))] (zP θ M N) (zFn (some (.int (iI (abI w t k)))) (zP θ M N)) := by
  refine z_start (own := RX0) (nm := "about") pnX0 rfl rfl (Nat.le_of_ble_eq_true rfl) ?_
  intro κ hκ hκl C
  change Z κ (zP θ M N) 0 0 0 [(0, .ref (σ 0 (0))), (1, .int (iI (t))), (2, .int (iI (k)))] []
  have hS := hs.S
  have hB := hS.B
  obtain ⟨hB1, hB2, hB3, hB4, hB5, hB6⟩ := hS.B
  have hC := hS.C
  obtain ⟨h81, h82⟩ := hs.r8
  have hln : 0 ≤ t → t < w 0 0 → w 10 t = if 8 ≤ t then ((xL w t).length : Int) else 0 := xab_len hs
  have h10 : 0 ≤ t → t < w 0 0 → 0 ≤ w 10 t ∧ w 10 t ≤ 60 := fun a b => (hS.T a b).2.2.2.2.1
  refine z_aload_n C 1 0 dX0_about_0 rfl rfl ?_
  refine z_iload_n C 2 1 dX0_about_1 rfl rfl ?_
  refine z_callV (As := [.int (iI (t))]) (rest := []) C hκ hκl 5 (k0_isType hX hs hw hT (t) r_t) dX0_about_2 q374 q376 qs1 q90 q377 znX0_isType (Nat.le_of_ble_eq_true rfl) (Nat.le_of_ble_eq_true rfl) (Nat.le_of_ble_eq_true rfl) (Nat.le_of_ble_eq_true rfl) (zrec_P hX.o) rfl rfl (Nat.le_of_ble_eq_true rfl) rfl (fun v9 Q9 h9 => ?_)
  obtain ⟨rfl, rfl⟩ := h9
  refine z_as (st' := [.int (iI (bI (tyB w (t))))]) rfl rfl rfl ?_
  refine z_ifB_eq C 20 8 dX0_about_5 (by decide) rfl (fun c1 => ?_) (fun c1 => ?_)
  · skip
    have c1b : ¬ (0 ≤ (t) ∧ (t) < w 0 0) := of_decide_eq_false c1
    refine z_iconst C 21 dX0_about_20 rfl ?_
    exact z_iret C dX0_about_21 rfl (Nat.le_of_ble_eq_true rfl) (Nat.le_of_ble_eq_true rfl) ⟨congrArg (fun z => some (Value.int (iI z))) (by clear C hκ hκl hS hB hB1 hB2 hB3 hB4 hB5 hB6 hC hw hX hs hT h81 h82; unfold abI tyB; rw [if_pos (by simp_all [tyB] <;> omega)]), rfl⟩
  · skip
    have c1b : (0 ≤ (t) ∧ (t) < w 0 0) := of_decide_eq_true c1
    refine z_iload_n C 9 2 dX0_about_8 rfl rfl ?_
    refine z_i2l C 10 dX0_about_9 r_k rfl ?_
    refine z_lconst (x := 0) C 11 dX0_about_10 rfl rfl ?_
    refine z_ldc2 (z := 9) C 14 dX0_about_11 q519 (by decide) rfl ?_
    refine z_callS (As := [.long (lI (k)), .long (lI (0)), .long (lI (9))]) (rest := []) C hκ hκl 17 (k0_isIn hT (k) (0) (9) (inR_L r_k) ⟨by decide, by decide⟩ ⟨by decide, by decide⟩) dX0_about_14 q378 q379 q90 q380 znX0_isIn (Nat.le_of_ble_eq_true rfl) (Nat.le_of_ble_eq_true rfl) (Nat.le_of_ble_eq_true rfl) (Nat.le_of_ble_eq_true rfl) rfl (Nat.le_of_ble_eq_true rfl) rfl (fun v9 Q9 h9 => ?_)
    obtain ⟨rfl, rfl⟩ := h9
    refine z_as (st' := [.int (iI (bI (decide ((0) ≤ (k) ∧ (k) ≤ (9)))))]) rfl rfl rfl ?_
    refine z_ifB_ne C 22 20 dX0_about_17 (by decide) rfl (fun c2 => ?_) (fun c2 => ?_)
    · skip
      have c2b : (((0) ≤ (k) ∧ (k) ≤ (9))) := of_decide_eq_true c2
      refine z_aload_n C 23 0 dX0_about_22 rfl rfl ?_
      refine z_getf C hκ (v := .ref (σ 1 (0))) 26 0 zk_X0 hX.o (by decide) q325 (Or.inl rfl) rfl dX0_about_23 rfl ?_
      refine z_iload_n C 27 1 dX0_about_26 rfl rfl ?_
      refine x_aT C hκ 28 hX hs (by omega) (by omega) dX0_about_27 rfl ?_
      obtain ⟨f3a, f3b, f3c, f3d, f3e, f3f, f3g, f3h⟩ := hS.T (show 0 ≤ t by omega) (by omega)
      obtain ⟨f3i, f3j, f3k, f3l⟩ := hs.ty (show 0 ≤ t by omega) (by omega)
      refine z_astore_n (lv' := [(0, .ref (σ 0 (0))), (1, .int (iI (t))), (2, .int (iI (k))), (3, .ref (σ 10 (t)))]) C 29 [1, 2, 3, 0] dX0_about_28 (by decide) rfl rfl ?_
      refine z_iload_n C 30 2 dX0_about_29 rfl rfl ?_
      have hl0 := hln (by omega) (by omega); have hl1 := h10 (by omega) (by omega)
      have hk9 : 0 ≤ k ∧ k ≤ 9 := by simp_all
      have hoff : -1 ≤ w 2 t ∧ -1 ≤ w 4 t := by omega
      have c4r : inR (k) := r_k
      rcases (show k = 0 ∨ k = 1 ∨ k = 2 ∨ k = 3 ∨ k = 4 ∨ k = 5 ∨ k = 6 ∨ (k < 0 ∨ 6 < k) by omega) with c4 | c4 | c4 | c4 | c4 | c4 | c4 | c4
      · skip
        refine z_tsIn C (k) 72 (off := 42) dX0_about_30 c4r (by omega) (by omega) (by rw [c4]; rfl) (by decide) ?_
        refine z_aload_n C 73 3 dX0_about_72 rfl rfl ?_
        refine xv_what (rest := []) C hκ hκl hX hs hw hT (t)   ⟨(by omega), (by omega)⟩  76 dX0_about_73 q459 (Nat.le_of_ble_eq_true rfl) (Nat.le_of_ble_eq_true rfl) (Nat.le_of_ble_eq_true rfl) (Nat.le_of_ble_eq_true rfl) (Nat.le_of_ble_eq_true rfl) rfl ?_
        refine z_as (st' := [.int (iI (w 1 (t)))]) rfl rfl rfl ?_
        exact z_iret C dX0_about_76 rfl (Nat.le_of_ble_eq_true rfl) (Nat.le_of_ble_eq_true rfl) ⟨congrArg (fun z => some (Value.int (iI z))) (by clear C hκ hκl hS hB hB1 hB2 hB3 hB4 hB5 hB6 hC hw hX hs hT h81 h82 f3a f3b f3c f3d f3e f3f f3g f3h f3i f3j f3k f3l; rw [abI_in (by omega) (by omega)]; clear hln h10; first | (simp_all [rfB, bI]; done) | (simp_all [rfB, bI] <;> omega)), rfl⟩
      · skip
        refine z_tsIn C (k) 77 (off := 47) dX0_about_30 c4r (by omega) (by omega) (by rw [c4]; rfl) (by decide) ?_
        refine z_aload_n C 78 3 dX0_about_77 rfl rfl ?_
        refine xv_parent (rest := []) C hκ hκl hX hs hw hT (t)   ⟨(by omega), (by omega)⟩  81 dX0_about_78 q520 (Nat.le_of_ble_eq_true rfl) (Nat.le_of_ble_eq_true rfl) (Nat.le_of_ble_eq_true rfl) (Nat.le_of_ble_eq_true rfl) (Nat.le_of_ble_eq_true rfl) rfl ?_
        refine z_as (st' := [va_rf (xo σ 10 (w 2 (t)))]) rfl rfl rfl ?_
        rcases Int.lt_or_le (w 2 (t)) 0 with n5 | n5
        · skip
          rw [xo_n n5]
          refine z_as (st' := [.null]) (lv' := [(0, .ref (σ 0 (0))), (1, .int (iI (t))), (2, .int (iI (k))), (3, .ref (σ 10 (t)))]) rfl rfl rfl ?_
          refine z_ifnonnullN C 84 dX0_about_81 rfl ?_
          refine z_iconst C 85 dX0_about_84 rfl ?_
          refine z_goto C 95 dX0_about_85 (by decide) ?_
          exact z_iret C dX0_about_95 rfl (Nat.le_of_ble_eq_true rfl) (Nat.le_of_ble_eq_true rfl) ⟨congrArg (fun z => some (Value.int (iI z))) (by clear C hκ hκl hS hB hB1 hB2 hB3 hB4 hB5 hB6 hC hw hX hs hT h81 h82 f3a f3b f3c f3d f3e f3f f3g f3h f3i f3j f3k f3l; rw [abI_in (by omega) (by omega)]; clear hln h10; first | (simp_all [rfB, bI]; done) | (simp_all [rfB, bI] <;> omega)), rfl⟩
        · skip
          rw [xo_y n5]
          refine z_as (st' := [.ref (σ 10 (w 2 (t)))]) (lv' := [(0, .ref (σ 0 (0))), (1, .int (iI (t))), (2, .int (iI (k))), (3, .ref (σ 10 (t)))]) rfl rfl rfl ?_
          refine z_ifnonnull C 88 dX0_about_81 (by decide) ?_
          refine z_aload_n C 89 3 dX0_about_88 rfl rfl ?_
          refine xv_parent (rest := []) C hκ hκl hX hs hw hT (t)   ⟨(by omega), (by omega)⟩  92 dX0_about_89 q520 (Nat.le_of_ble_eq_true rfl) (Nat.le_of_ble_eq_true rfl) (Nat.le_of_ble_eq_true rfl) (Nat.le_of_ble_eq_true rfl) (Nat.le_of_ble_eq_true rfl) rfl ?_
          refine z_as (st' := [va_rf (xo σ 10 (w 2 (t)))]) rfl rfl rfl ?_
          have y6 : 0 ≤ w 2 (t) := (by omega)
          rw [xo_y y6]
          refine z_as (st' := [.ref (σ 10 (w 2 (t)))]) (lv' := [(0, .ref (σ 0 (0))), (1, .int (iI (t))), (2, .int (iI (k))), (3, .ref (σ 10 (t)))]) rfl rfl rfl ?_
          obtain ⟨f7a, f7b, f7c, f7d, f7e, f7f, f7g, f7h⟩ := hS.T (show 0 ≤ w 2 (t) by omega) (by omega)
          obtain ⟨f7i, f7j, f7k, f7l⟩ := hs.ty (show 0 ≤ w 2 (t) by omega) (by omega)
          refine xv_number (rest := []) C hκ hκl hX hs hw hT (w 2 (t))   ⟨(by omega), (by omega)⟩  95 dX0_about_92 q396 (Nat.le_of_ble_eq_true rfl) (Nat.le_of_ble_eq_true rfl) (Nat.le_of_ble_eq_true rfl) (Nat.le_of_ble_eq_true rfl) (Nat.le_of_ble_eq_true rfl) rfl ?_
          refine z_as (st' := [.int (iI ((w 2 (t))))]) rfl rfl rfl ?_
          exact z_iret C dX0_about_95 rfl (Nat.le_of_ble_eq_true rfl) (Nat.le_of_ble_eq_true rfl) ⟨congrArg (fun z => some (Value.int (iI z))) (by clear C hκ hκl hS hB hB1 hB2 hB3 hB4 hB5 hB6 hC hw hX hs hT h81 h82 f3a f3b f3c f3d f3e f3f f3g f3h f3i f3j f3k f3l f7a f7b f7c f7d f7e f7f f7g f7h f7i f7j f7k f7l; rw [abI_in (by omega) (by omega)]; clear hln h10; first | (simp_all [rfB, bI]; done) | (simp_all [rfB, bI] <;> omega)), rfl⟩
      · skip
        refine z_tsIn C (k) 96 (off := 66) dX0_about_30 c4r (by omega) (by omega) (by rw [c4]; rfl) (by decide) ?_
        refine z_aload_n C 97 3 dX0_about_96 rfl rfl ?_
        refine xv_of (rest := []) C hκ hκl hX hs hw hT (t)   ⟨(by omega), (by omega)⟩  100 dX0_about_97 q532 (Nat.le_of_ble_eq_true rfl) (Nat.le_of_ble_eq_true rfl) (Nat.le_of_ble_eq_true rfl) (Nat.le_of_ble_eq_true rfl) (Nat.le_of_ble_eq_true rfl) rfl ?_
        refine z_as (st' := [va_rf (xo σ 10 (w 4 (t)))]) rfl rfl rfl ?_
        rcases Int.lt_or_le (w 4 (t)) 0 with n8 | n8
        · skip
          rw [xo_n n8]
          refine z_as (st' := [.null]) (lv' := [(0, .ref (σ 0 (0))), (1, .int (iI (t))), (2, .int (iI (k))), (3, .ref (σ 10 (t)))]) rfl rfl rfl ?_
          refine z_ifnonnullN C 103 dX0_about_100 rfl ?_
          refine z_iconst C 104 dX0_about_103 rfl ?_
          refine z_goto C 114 dX0_about_104 (by decide) ?_
          exact z_iret C dX0_about_114 rfl (Nat.le_of_ble_eq_true rfl) (Nat.le_of_ble_eq_true rfl) ⟨congrArg (fun z => some (Value.int (iI z))) (by clear C hκ hκl hS hB hB1 hB2 hB3 hB4 hB5 hB6 hC hw hX hs hT h81 h82 f3a f3b f3c f3d f3e f3f f3g f3h f3i f3j f3k f3l; rw [abI_in (by omega) (by omega)]; clear hln h10; first | (simp_all [rfB, bI]; done) | (simp_all [rfB, bI] <;> omega)), rfl⟩
        · skip
          rw [xo_y n8]
          refine z_as (st' := [.ref (σ 10 (w 4 (t)))]) (lv' := [(0, .ref (σ 0 (0))), (1, .int (iI (t))), (2, .int (iI (k))), (3, .ref (σ 10 (t)))]) rfl rfl rfl ?_
          refine z_ifnonnull C 107 dX0_about_100 (by decide) ?_
          refine z_aload_n C 108 3 dX0_about_107 rfl rfl ?_
          refine xv_of (rest := []) C hκ hκl hX hs hw hT (t)   ⟨(by omega), (by omega)⟩  111 dX0_about_108 q532 (Nat.le_of_ble_eq_true rfl) (Nat.le_of_ble_eq_true rfl) (Nat.le_of_ble_eq_true rfl) (Nat.le_of_ble_eq_true rfl) (Nat.le_of_ble_eq_true rfl) rfl ?_
          refine z_as (st' := [va_rf (xo σ 10 (w 4 (t)))]) rfl rfl rfl ?_
          have y9 : 0 ≤ w 4 (t) := (by omega)
          rw [xo_y y9]
          refine z_as (st' := [.ref (σ 10 (w 4 (t)))]) (lv' := [(0, .ref (σ 0 (0))), (1, .int (iI (t))), (2, .int (iI (k))), (3, .ref (σ 10 (t)))]) rfl rfl rfl ?_
          obtain ⟨f10a, f10b, f10c, f10d, f10e, f10f, f10g, f10h⟩ := hS.T (show 0 ≤ w 4 (t) by omega) (by omega)
          obtain ⟨f10i, f10j, f10k, f10l⟩ := hs.ty (show 0 ≤ w 4 (t) by omega) (by omega)
          refine xv_number (rest := []) C hκ hκl hX hs hw hT (w 4 (t))   ⟨(by omega), (by omega)⟩  114 dX0_about_111 q396 (Nat.le_of_ble_eq_true rfl) (Nat.le_of_ble_eq_true rfl) (Nat.le_of_ble_eq_true rfl) (Nat.le_of_ble_eq_true rfl) (Nat.le_of_ble_eq_true rfl) rfl ?_
          refine z_as (st' := [.int (iI ((w 4 (t))))]) rfl rfl rfl ?_
          exact z_iret C dX0_about_114 rfl (Nat.le_of_ble_eq_true rfl) (Nat.le_of_ble_eq_true rfl) ⟨congrArg (fun z => some (Value.int (iI z))) (by clear C hκ hκl hS hB hB1 hB2 hB3 hB4 hB5 hB6 hC hw hX hs hT h81 h82 f3a f3b f3c f3d f3e f3f f3g f3h f3i f3j f3k f3l f10a f10b f10c f10d f10e f10f f10g f10h f10i f10j f10k f10l; rw [abI_in (by omega) (by omega)]; clear hln h10; first | (simp_all [rfB, bI]; done) | (simp_all [rfB, bI] <;> omega)), rfl⟩
      · skip
        refine z_tsIn C (k) 115 (off := 85) dX0_about_30 c4r (by omega) (by omega) (by rw [c4]; rfl) (by decide) ?_
        refine z_aload_n C 116 3 dX0_about_115 rfl rfl ?_
        refine x_tget (v := .int (iI (w 3 (t)))) C hκ 119 1 hX hs (by omega) (by omega) (by decide) rfl rfl rfl q179 (Or.inl rfl) rfl dX0_about_116 rfl ?_
        exact z_iret C dX0_about_119 rfl (Nat.le_of_ble_eq_true rfl) (Nat.le_of_ble_eq_true rfl) ⟨congrArg (fun z => some (Value.int (iI z))) (by clear C hκ hκl hS hB hB1 hB2 hB3 hB4 hB5 hB6 hC hw hX hs hT h81 h82 f3a f3b f3c f3d f3e f3f f3g f3h f3i f3j f3k f3l; rw [abI_in (by omega) (by omega)]; clear hln h10; first | (simp_all [rfB, bI]; done) | (simp_all [rfB, bI] <;> omega)), rfl⟩
      · skip
        refine z_tsIn C (k) 120 (off := 90) dX0_about_30 c4r (by omega) (by omega) (by rw [c4]; rfl) (by decide) ?_
        refine z_aload_n C 121 3 dX0_about_120 rfl rfl ?_
        refine x_tget (v := .int (iI (w 6 (t)))) C hκ 124 3 hX hs (by omega) (by omega) (by decide) rfl rfl rfl q192 (Or.inl rfl) rfl dX0_about_121 rfl ?_
        exact z_iret C dX0_about_124 rfl (Nat.le_of_ble_eq_true rfl) (Nat.le_of_ble_eq_true rfl) ⟨congrArg (fun z => some (Value.int (iI z))) (by clear C hκ hκl hS hB hB1 hB2 hB3 hB4 hB5 hB6 hC hw hX hs hT h81 h82 f3a f3b f3c f3d f3e f3f f3g f3h f3i f3j f3k f3l; rw [abI_in (by omega) (by omega)]; clear hln h10; first | (simp_all [rfB, bI]; done) | (simp_all [rfB, bI] <;> omega)), rfl⟩
      · skip
        refine z_tsIn C (k) 125 (off := 95) dX0_about_30 c4r (by omega) (by omega) (by rw [c4]; rfl) (by decide) ?_
        refine z_aload_n C 126 3 dX0_about_125 rfl rfl ?_
        refine xv_isReference (rest := []) C hκ hκl hX hs hw hT (t)   ⟨(by omega), (by omega)⟩  129 dX0_about_126 q542 (Nat.le_of_ble_eq_true rfl) (Nat.le_of_ble_eq_true rfl) (Nat.le_of_ble_eq_true rfl) (Nat.le_of_ble_eq_true rfl) (Nat.le_of_ble_eq_true rfl) rfl ?_
        refine z_as (st' := [.int (iI (bI (rfB w (t))))]) rfl rfl rfl ?_
        refine z_ifB_eq C 139 132 dX0_about_129 (by decide) rfl (fun c11 => ?_) (fun c11 => ?_)
        · skip
          have c11b : ¬ (8 ≤ (t) ∧ (t) < w 0 0) := of_decide_eq_false c11
          refine z_iconst C 140 dX0_about_139 rfl ?_
          exact z_iret C dX0_about_140 rfl (Nat.le_of_ble_eq_true rfl) (Nat.le_of_ble_eq_true rfl) ⟨congrArg (fun z => some (Value.int (iI z))) (by clear C hκ hκl hS hB hB1 hB2 hB3 hB4 hB5 hB6 hC hw hX hs hT h81 h82 f3a f3b f3c f3d f3e f3f f3g f3h f3i f3j f3k f3l; rw [abI_in (by omega) (by omega)]; clear hln h10; first | (simp_all [rfB, bI]; done) | (simp_all [rfB, bI] <;> omega)), rfl⟩
        · skip
          have c11b : (8 ≤ (t) ∧ (t) < w 0 0) := of_decide_eq_true c11
          refine z_aload_n C 133 3 dX0_about_132 rfl rfl ?_
          refine x_tget (v := .int (iI ((((xL w) (t)).length : Int)))) C hκ 136 5 hX hs (by omega) (by omega) (by decide) rfl rfl rfl q195 (Or.inl rfl) rfl dX0_about_133 rfl ?_
          refine z_goto C 140 dX0_about_136 (by decide) ?_
          exact z_iret C dX0_about_140 rfl (Nat.le_of_ble_eq_true rfl) (Nat.le_of_ble_eq_true rfl) ⟨congrArg (fun z => some (Value.int (iI z))) (by clear C hκ hκl hS hB hB1 hB2 hB3 hB4 hB5 hB6 hC hw hX hs hT h81 h82 f3a f3b f3c f3d f3e f3f f3g f3h f3i f3j f3k f3l; rw [abI_in (by omega) (by omega)]; clear hln h10; first | (simp_all [rfB, bI]; done) | (simp_all [rfB, bI] <;> omega)), rfl⟩
      · skip
        refine z_tsIn C (k) 141 (off := 111) dX0_about_30 c4r (by omega) (by omega) (by rw [c4]; rfl) (by decide) ?_
        refine z_aload_n C 142 0 dX0_about_141 rfl rfl ?_
        refine z_aload_n C 143 3 dX0_about_142 rfl rfl ?_
        refine z_callV (As := [.ref (σ 10 (t))]) (rest := []) C hκ hκl 146 (k0_isClosed hX hs hw hT (t) ⟨by omega, by omega⟩) dX0_about_143 q552 q554 qs3 q90 q555 znX0_isClosed (Nat.le_of_ble_eq_true rfl) (Nat.le_of_ble_eq_true rfl) (Nat.le_of_ble_eq_true rfl) (Nat.le_of_ble_eq_true rfl) (zrec_P hX.o) rfl rfl (Nat.le_of_ble_eq_true rfl) rfl (fun v9 Q9 h9 => ?_)
        obtain ⟨rfl, rfl⟩ := h9
        refine z_as (st' := [.int (iI (bI (ccB w (t))))]) rfl rfl rfl ?_
        refine z_ifB_eq C 153 149 dX0_about_146 (by decide) rfl (fun c12 => ?_) (fun c12 => ?_)
        · skip
          refine z_iconst C 154 dX0_about_153 rfl ?_
          exact z_iret C dX0_about_154 rfl (Nat.le_of_ble_eq_true rfl) (Nat.le_of_ble_eq_true rfl) ⟨congrArg (fun z => some (Value.int (iI z))) (by clear C hκ hκl hS hB hB1 hB2 hB3 hB4 hB5 hB6 hC hw hX hs hT h81 h82 f3a f3b f3c f3d f3e f3f f3g f3h f3i f3j f3k f3l; rw [abI_in (by omega) (by omega)]; clear hln h10; first | (simp_all [rfB, bI]; done) | (simp_all [rfB, bI] <;> omega)), rfl⟩
        · skip
          refine z_iconst C 150 dX0_about_149 rfl ?_
          refine z_goto C 154 dX0_about_150 (by decide) ?_
          exact z_iret C dX0_about_154 rfl (Nat.le_of_ble_eq_true rfl) (Nat.le_of_ble_eq_true rfl) ⟨congrArg (fun z => some (Value.int (iI z))) (by clear C hκ hκl hS hB hB1 hB2 hB3 hB4 hB5 hB6 hC hw hX hs hT h81 h82 f3a f3b f3c f3d f3e f3f f3g f3h f3i f3j f3k f3l; rw [abI_in (by omega) (by omega)]; clear hln h10; first | (simp_all [rfB, bI]; done) | (simp_all [rfB, bI] <;> omega)), rfl⟩
      · skip
        refine z_tsOut C 155 dX0_about_30 c4r c4 (by decide) ?_
        refine z_iload_n C 156 2 dX0_about_155 rfl rfl ?_
        refine z_bipush C 158 dX0_about_156 (by decide) rfl ?_
        refine z_isub C 159 dX0_about_158 rfl ?_
        refine z_aload_n C 160 3 dX0_about_159 rfl rfl ?_
        refine x_tget (v := .int (iI (w 6 (t)))) C hκ 163 3 hX hs (by omega) (by omega) (by decide) rfl rfl rfl q192 (Or.inl rfl) rfl dX0_about_160 rfl ?_
        refine z_icmp_ge C 181 166 dX0_about_163 (by decide) ⟨by omega, by omega⟩ (hw.r _ _ rfl) rfl (fun c13 => ?_) (fun c13 => ?_)
        · skip
          refine z_iconst C 182 dX0_about_181 rfl ?_
          exact z_iret C dX0_about_182 rfl (Nat.le_of_ble_eq_true rfl) (Nat.le_of_ble_eq_true rfl) ⟨congrArg (fun z => some (Value.int (iI z))) (by clear C hκ hκl hS hB hB1 hB2 hB3 hB4 hB5 hB6 hC hw hX hs hT h81 h82 f3a f3b f3c f3d f3e f3f f3g f3h f3i f3j f3k f3l; rw [abI_in (by omega) (by omega)]; clear hln h10; first | (simp_all [rfB, bI]; done) | (simp_all [rfB, bI] <;> omega)), rfl⟩
        · skip
          refine z_aload_n C 167 3 dX0_about_166 rfl rfl ?_
          refine x_tget (v := .ref (σ 11 (t))) C hκ 170 2 hX hs (by omega) (by omega) (by decide) rfl rfl rfl q186 (Or.inl rfl) rfl dX0_about_167 rfl ?_
          refine z_iload_n C 171 2 dX0_about_170 rfl rfl ?_
          refine z_bipush C 173 dX0_about_171 (by decide) rfl ?_
          refine z_isub C 174 dX0_about_173 rfl ?_
          have hfc7 := (hS.T (show 0 ≤ t by omega) (by omega)).2.2.1 (k - 7) (by omega) (by omega)
          refine x_afc C hκ 175 hX hs (by omega) (by omega) (by omega) (by omega) dX0_about_174 rfl ?_
          obtain ⟨f14a, f14b, f14c, f14d, f14e, f14f, f14g, f14h⟩ := hS.T (show 0 ≤ w 7 (3 * (t) + ((k) - (7))) by omega) (by omega)
          obtain ⟨f14i, f14j, f14k, f14l⟩ := hs.ty (show 0 ≤ w 7 (3 * (t) + ((k) - (7))) by omega) (by omega)
          refine xv_number (rest := []) C hκ hκl hX hs hw hT (w 7 (3 * (t) + ((k) - (7))))   ⟨(by omega), (by omega)⟩  178 dX0_about_175 q396 (Nat.le_of_ble_eq_true rfl) (Nat.le_of_ble_eq_true rfl) (Nat.le_of_ble_eq_true rfl) (Nat.le_of_ble_eq_true rfl) (Nat.le_of_ble_eq_true rfl) rfl ?_
          refine z_as (st' := [.int (iI ((w 7 (3 * (t) + ((k) - (7))))))]) rfl rfl rfl ?_
          refine z_goto C 182 dX0_about_178 (by decide) ?_
          exact z_iret C dX0_about_182 rfl (Nat.le_of_ble_eq_true rfl) (Nat.le_of_ble_eq_true rfl) ⟨congrArg (fun z => some (Value.int (iI z))) (by clear C hκ hκl hS hB hB1 hB2 hB3 hB4 hB5 hB6 hC hw hX hs hT h81 h82 f3a f3b f3c f3d f3e f3f f3g f3h f3i f3j f3k f3l f14a f14b f14c f14d f14e f14f f14g f14h f14i f14j f14k f14l; rw [abI_in (by omega) (by omega)]; clear hln h10; first | (simp_all [rfB, bI]; done) | (simp_all [rfB, bI] <;> omega)), rfl⟩
    · skip
      have c2b : ¬ (((0) ≤ (k) ∧ (k) ≤ (9))) := of_decide_eq_false c2
      refine z_iconst C 21 dX0_about_20 rfl ?_
      exact z_iret C dX0_about_21 rfl (Nat.le_of_ble_eq_true rfl) (Nat.le_of_ble_eq_true rfl) ⟨congrArg (fun z => some (Value.int (iI z))) (by clear C hκ hκl hS hB hB1 hB2 hB3 hB4 hB5 hB6 hC hw hX hs hT h81 h82; unfold abI tyB; rw [if_pos (by simp_all [tyB] <;> omega)]), rfl⟩
set_option maxRecDepth 100000 in
theorem k0_meet {l : Launch} {θ : zTh} {σ : xA} {w : mW} {M N : zMap} (hX : xM θ σ w (xL w) M) (hs : xS w) (hw : mWF w) (hT : zTb θ) (a : Int) (b : Int) (r_a : inR a) (r_b : inR b) (hm : 8 ≤ a ∧ a < w 0 0 → 8 ≤ b ∧ b < w 0 0 → ∃ K : Nat, (K : Int) < w 10 a ∧ isa w b (w 9 (60 * a + K)) = true) : ZM θ l yX0_meet cX0_meet 4 (some .int) ⟨247, 0, 0, 2530⟩ [.ref (σ 0 (0)), .int (iI (a)), .int (iI (b))] (zP θ M N) (zFn (some (.int (iI (mtI w a b)))) (zP θ M N)) := by
  refine z_start (own := RX0) (nm := "meet") pnX0 rfl rfl (Nat.le_of_ble_eq_true rfl) ?_
  intro κ hκ hκl C
  change Z κ (zP θ M N) 0 0 0 [(0, .ref (σ 0 (0))), (1, .int (iI (a))), (2, .int (iI (b)))] []
  have hS := hs.S
  have hB := hS.B
  obtain ⟨hB1, hB2, hB3, hB4, hB5, hB6⟩ := hS.B
  have hC := hS.C
  obtain ⟨h81, h82⟩ := hs.r8
  refine z_aload_n C 1 0 dX0_meet_0 rfl rfl ?_
  refine z_iload_n C 2 1 dX0_meet_1 rfl rfl ?_
  refine z_callV (As := [.int (iI (a))]) (rest := []) C hκ hκl 5 (k0_isType hX hs hw hT (a) r_a) dX0_meet_2 q374 q376 qs1 q90 q377 znX0_isType (Nat.le_of_ble_eq_true rfl) (Nat.le_of_ble_eq_true rfl) (Nat.le_of_ble_eq_true rfl) (Nat.le_of_ble_eq_true rfl) (zrec_P hX.o) rfl rfl (Nat.le_of_ble_eq_true rfl) rfl (fun v9 Q9 h9 => ?_)
  obtain ⟨rfl, rfl⟩ := h9
  refine z_as (st' := [.int (iI (bI (tyB w (a))))]) rfl rfl rfl ?_
  refine z_ifB_eq C 40 8 dX0_meet_5 (by decide) rfl (fun c1 => ?_) (fun c1 => ?_)
  · skip
    have c1b : ¬ (0 ≤ (a) ∧ (a) < w 0 0) := of_decide_eq_false c1
    refine z_iconst C 41 dX0_meet_40 rfl ?_
    exact z_iret C dX0_meet_41 rfl (Nat.le_of_ble_eq_true rfl) (Nat.le_of_ble_eq_true rfl) ⟨congrArg (fun z => some (Value.int (iI z))) (by clear C hκ hκl hS hB hB1 hB2 hB3 hB4 hB5 hB6 hC hw hX hs hT h81 h82; clear hm; unfold mtI; rw [if_pos]; unfold rfB at *; first | (simp_all; done) | (simp_all <;> omega) | grind), rfl⟩
  · skip
    have c1b : (0 ≤ (a) ∧ (a) < w 0 0) := of_decide_eq_true c1
    refine z_aload_n C 9 0 dX0_meet_8 rfl rfl ?_
    refine z_iload_n C 10 2 dX0_meet_9 rfl rfl ?_
    refine z_callV (As := [.int (iI (b))]) (rest := []) C hκ hκl 13 (k0_isType hX hs hw hT (b) r_b) dX0_meet_10 q374 q376 qs1 q90 q377 znX0_isType (Nat.le_of_ble_eq_true rfl) (Nat.le_of_ble_eq_true rfl) (Nat.le_of_ble_eq_true rfl) (Nat.le_of_ble_eq_true rfl) (zrec_P hX.o) rfl rfl (Nat.le_of_ble_eq_true rfl) rfl (fun v9 Q9 h9 => ?_)
    obtain ⟨rfl, rfl⟩ := h9
    refine z_as (st' := [.int (iI (bI (tyB w (b))))]) rfl rfl rfl ?_
    refine z_ifB_eq C 40 16 dX0_meet_13 (by decide) rfl (fun c2 => ?_) (fun c2 => ?_)
    · skip
      have c2b : ¬ (0 ≤ (b) ∧ (b) < w 0 0) := of_decide_eq_false c2
      refine z_iconst C 41 dX0_meet_40 rfl ?_
      exact z_iret C dX0_meet_41 rfl (Nat.le_of_ble_eq_true rfl) (Nat.le_of_ble_eq_true rfl) ⟨congrArg (fun z => some (Value.int (iI z))) (by clear C hκ hκl hS hB hB1 hB2 hB3 hB4 hB5 hB6 hC hw hX hs hT h81 h82; clear hm; unfold mtI; rw [if_pos]; unfold rfB at *; first | (simp_all; done) | (simp_all <;> omega) | grind), rfl⟩
    · skip
      have c2b : (0 ≤ (b) ∧ (b) < w 0 0) := of_decide_eq_true c2
      refine z_aload_n C 17 0 dX0_meet_16 rfl rfl ?_
      refine z_getf C hκ (v := .ref (σ 1 (0))) 20 0 zk_X0 hX.o (by decide) q325 (Or.inl rfl) rfl dX0_meet_17 rfl ?_
      refine z_iload_n C 21 1 dX0_meet_20 rfl rfl ?_
      refine x_aT C hκ 22 hX hs (by omega) (by omega) dX0_meet_21 rfl ?_
      obtain ⟨f3a, f3b, f3c, f3d, f3e, f3f, f3g, f3h⟩ := hS.T (show 0 ≤ a by omega) (by omega)
      obtain ⟨f3i, f3j, f3k, f3l⟩ := hs.ty (show 0 ≤ a by omega) (by omega)
      refine xv_isReference (rest := []) C hκ hκl hX hs hw hT (a)   ⟨(by omega), (by omega)⟩  25 dX0_meet_22 q542 (Nat.le_of_ble_eq_true rfl) (Nat.le_of_ble_eq_true rfl) (Nat.le_of_ble_eq_true rfl) (Nat.le_of_ble_eq_true rfl) (Nat.le_of_ble_eq_true rfl) rfl ?_
      refine z_as (st' := [.int (iI (bI (rfB w (a))))]) rfl rfl rfl ?_
      refine z_ifB_eq C 40 28 dX0_meet_25 (by decide) rfl (fun c4 => ?_) (fun c4 => ?_)
      · skip
        have c4b : ¬ (8 ≤ (a) ∧ (a) < w 0 0) := of_decide_eq_false c4
        refine z_iconst C 41 dX0_meet_40 rfl ?_
        exact z_iret C dX0_meet_41 rfl (Nat.le_of_ble_eq_true rfl) (Nat.le_of_ble_eq_true rfl) ⟨congrArg (fun z => some (Value.int (iI z))) (by clear C hκ hκl hS hB hB1 hB2 hB3 hB4 hB5 hB6 hC hw hX hs hT h81 h82 f3a f3b f3c f3d f3e f3f f3g f3h f3i f3j f3k f3l; clear hm; unfold mtI; rw [if_pos]; unfold rfB at *; first | (simp_all; done) | (simp_all <;> omega) | grind), rfl⟩
      · skip
        have c4b : (8 ≤ (a) ∧ (a) < w 0 0) := of_decide_eq_true c4
        refine z_aload_n C 29 0 dX0_meet_28 rfl rfl ?_
        refine z_getf C hκ (v := .ref (σ 1 (0))) 32 0 zk_X0 hX.o (by decide) q325 (Or.inl rfl) rfl dX0_meet_29 rfl ?_
        refine z_iload_n C 33 2 dX0_meet_32 rfl rfl ?_
        refine x_aT C hκ 34 hX hs (by omega) (by omega) dX0_meet_33 rfl ?_
        obtain ⟨f5a, f5b, f5c, f5d, f5e, f5f, f5g, f5h⟩ := hS.T (show 0 ≤ b by omega) (by omega)
        obtain ⟨f5i, f5j, f5k, f5l⟩ := hs.ty (show 0 ≤ b by omega) (by omega)
        refine xv_isReference (rest := []) C hκ hκl hX hs hw hT (b)   ⟨(by omega), (by omega)⟩  37 dX0_meet_34 q542 (Nat.le_of_ble_eq_true rfl) (Nat.le_of_ble_eq_true rfl) (Nat.le_of_ble_eq_true rfl) (Nat.le_of_ble_eq_true rfl) (Nat.le_of_ble_eq_true rfl) rfl ?_
        refine z_as (st' := [.int (iI (bI (rfB w (b))))]) rfl rfl rfl ?_
        refine z_ifB_ne C 42 40 dX0_meet_37 (by decide) rfl (fun c6 => ?_) (fun c6 => ?_)
        · skip
          have c6b : (8 ≤ (b) ∧ (b) < w 0 0) := of_decide_eq_true c6
          have hab : (8 ≤ a ∧ a < w 0 0) ∧ (8 ≤ b ∧ b < w 0 0) := by simp_all [rfB]
          obtain ⟨K, hK1, hK2⟩ := hm hab.1 hab.2
          refine z_iconst C 43 dX0_meet_42 rfl ?_
          refine z_istore_n (lv' := [(0, .ref (σ 0 (0))), (1, .int (iI (a))), (2, .int (iI (b))), (3, .int (iI (0)))]) C 44 [1, 2, 3, 0] dX0_meet_43 (by decide) rfl rfl ?_
          have L44_7 : ∀ (fu : Nat) (k : Nat) (hk : k ≤ K) (hj : ∀ j : Nat, j < k → isa w b (w 9 (60 * a + j)) = false) (hme : K - k < fu), Z κ (zP θ M N) 0 0 44 [(0, .ref (σ 0 (0))), (1, .int (iI (a))), (2, .int (iI (b))), (3, .int (iI ((k : Int))))] [] := by
            intro fu
            induction fu with
            | zero => intro k hk hj hme; exact absurd hme (Nat.not_lt_zero _)
            | succ fu ih8 =>
              intro k hk hj hme
              have hj0 := hj
              have hx : 0 ≤ w 10 a ∧ w 10 a ≤ 60 := (hS.T (by omega) (by omega)).2.2.2.2.1
              have hy := (hS.T (show 0 ≤ a by omega) (by omega)).2.2.2.2.2.1 k (by omega) (by omega)
              have hgk : giB w b (w 9 (60 * a + k)) = isa w b (w 9 (60 * a + k)) := gi_a8 hs (by omega) (by omega) (by omega) (by omega)
              refine z_aload_n C 45 0 dX0_meet_44 rfl rfl ?_
              refine z_getf C hκ (v := .ref (σ 1 (0))) 48 0 zk_X0 hX.o (by decide) q325 (Or.inl rfl) rfl dX0_meet_45 rfl ?_
              refine z_iload_n C 49 2 dX0_meet_48 rfl rfl ?_
              refine x_aT C hκ 50 hX hs (by omega) (by omega) dX0_meet_49 rfl ?_
              refine z_aload_n C 51 0 dX0_meet_50 rfl rfl ?_
              refine z_getf C hκ (v := .ref (σ 1 (0))) 54 0 zk_X0 hX.o (by decide) q325 (Or.inl rfl) rfl dX0_meet_51 rfl ?_
              refine z_iload_n C 55 1 dX0_meet_54 rfl rfl ?_
              refine x_aT C hκ 56 hX hs (by omega) (by omega) dX0_meet_55 rfl ?_
              refine x_tget (v := .ref (σ 12 (a))) C hκ 59 4 hX hs (by omega) (by omega) (by decide) rfl rfl rfl q194 (Or.inl rfl) rfl dX0_meet_56 rfl ?_
              refine z_iload_n C 60 3 dX0_meet_59 rfl rfl ?_
              refine x_aab (a := (w 9 (60 * a + (k : Int)))) C hκ 61 hX (by omega) (by omega) (by omega) (by omega) (xab_at hs (by omega) (by omega) (by omega) (by omega)) dX0_meet_60 rfl ?_
              obtain ⟨f9a, f9b, f9c, f9d, f9e, f9f, f9g, f9h⟩ := hS.T (show 0 ≤ (w 9 (60 * a + (k : Int))) by omega) (by omega)
              obtain ⟨f9i, f9j, f9k, f9l⟩ := hs.ty (show 0 ≤ (w 9 (60 * a + (k : Int))) by omega) (by omega)
              refine xv_is (rest := []) C hκ hκl hX hs hw hT (b) ((w 9 (60 * a + (k : Int)))) ⟨(by omega), (by omega)⟩ ⟨(by omega), (by omega)⟩ 64 dX0_meet_61 q557 (Nat.le_of_ble_eq_true rfl) (Nat.le_of_ble_eq_true rfl) (Nat.le_of_ble_eq_true rfl) (Nat.le_of_ble_eq_true rfl) (Nat.le_of_ble_eq_true rfl) rfl ?_
              refine z_as (st' := [.int (iI (bI (giB w (b) ((w 9 (60 * a + (k : Int)))))))]) rfl rfl rfl ?_
              refine z_ifB_ne C 73 67 dX0_meet_64 (by decide) rfl (fun c10 => ?_) (fun c10 => ?_)
              · skip
                refine z_aload_n C 74 0 dX0_meet_73 rfl rfl ?_
                refine z_getf C hκ (v := .ref (σ 1 (0))) 77 0 zk_X0 hX.o (by decide) q325 (Or.inl rfl) rfl dX0_meet_74 rfl ?_
                refine z_iload_n C 78 1 dX0_meet_77 rfl rfl ?_
                refine x_aT C hκ 79 hX hs (by omega) (by omega) dX0_meet_78 rfl ?_
                refine x_tget (v := .ref (σ 12 (a))) C hκ 82 4 hX hs (by omega) (by omega) (by decide) rfl rfl rfl q194 (Or.inl rfl) rfl dX0_meet_79 rfl ?_
                refine z_iload_n C 83 3 dX0_meet_82 rfl rfl ?_
                refine x_aab (a := (w 9 (60 * a + (k : Int)))) C hκ 84 hX (by omega) (by omega) (by omega) (by omega) (xab_at hs (by omega) (by omega) (by omega) (by omega)) dX0_meet_83 rfl ?_
                refine xv_number (rest := []) C hκ hκl hX hs hw hT ((w 9 (60 * a + (k : Int))))   ⟨(by omega), (by omega)⟩  87 dX0_meet_84 q396 (Nat.le_of_ble_eq_true rfl) (Nat.le_of_ble_eq_true rfl) (Nat.le_of_ble_eq_true rfl) (Nat.le_of_ble_eq_true rfl) (Nat.le_of_ble_eq_true rfl) rfl ?_
                refine z_as (st' := [.int (iI (((w 9 (60 * a + (k : Int))))))]) rfl rfl rfl ?_
                exact z_iret C dX0_meet_87 rfl (Nat.le_of_ble_eq_true rfl) (Nat.le_of_ble_eq_true rfl) ⟨congrArg (fun z => some (Value.int (iI z))) (by unfold mtI mtK; rw [if_neg (by simp_all [rfB]), firstN_at (k := k) (by omega) (by rw [← hgk]; assumption) hj]), rfl⟩
              · skip
                refine z_iinc (lv' := [(0, .ref (σ 0 (0))), (1, .int (iI (a))), (2, .int (iI (b))), (3, .int (iI (((k : Int)) + 1)))]) C 70 3 [1, 2, 3, 0] dX0_meet_67 rfl (by decide) rfl rfl ?_
                refine z_goto C 44 dX0_meet_70 (by decide) ?_
                have hkK : k + 1 ≤ K := (by rcases Nat.lt_or_eq_of_le hk with h | h; exact h; subst h; simp_all)
                refine z_as (lv' := [(0, .ref (σ 0 (0))), (1, .int (iI (a))), (2, .int (iI (b))), (3, .int (iI (((k + 1) : Int))))]) rfl rfl rfl ?_
                exact ih8 (k + 1) hkK (fun j hj => (Nat.lt_or_eq_of_le (Nat.le_of_lt_succ hj)).elim (hj0 j) (fun h => by rw [h, ← hgk]; assumption)) (by omega)
          refine z_as (lv' := [(0, .ref (σ 0 (0))), (1, .int (iI (a))), (2, .int (iI (b))), (3, .int (iI (((0) : Int))))]) rfl rfl rfl ?_
          exact L44_7 _ (0) (by omega) (fun j hj => absurd hj (Nat.not_lt_zero _)) (Nat.lt_succ_self _)
        · skip
          have c6b : ¬ (8 ≤ (b) ∧ (b) < w 0 0) := of_decide_eq_false c6
          refine z_iconst C 41 dX0_meet_40 rfl ?_
          exact z_iret C dX0_meet_41 rfl (Nat.le_of_ble_eq_true rfl) (Nat.le_of_ble_eq_true rfl) ⟨congrArg (fun z => some (Value.int (iI z))) (by clear C hκ hκl hS hB hB1 hB2 hB3 hB4 hB5 hB6 hC hw hX hs hT h81 h82 f3a f3b f3c f3d f3e f3f f3g f3h f3i f3j f3k f3l f5a f5b f5c f5d f5e f5f f5g f5h f5i f5j f5k f5l; clear hm; unfold mtI; rw [if_pos]; unfold rfB at *; first | (simp_all; done) | (simp_all <;> omega) | grind), rfl⟩
set_option maxRecDepth 100000 in
theorem k0_declared {l : Launch} {θ : zTh} {σ : xA} {w : mW} {Lf : Int → List Int} {M N : zMap} (hX : xM θ σ w (Lf) M) (hs : xS w) (hw : mWF w) (hT : zTb θ) (t : Int) (i : Int) (r_t : inR t) (r_i : inR i)  : ZM θ l yX0_declared cX0_declared 5 (some .int) ⟨2, 0, 0, 46⟩ [.ref (σ 0 (0)), .int (iI (t)), .int (iI (i))] (zP θ M N) (zFn (some (.int (iI (dclI w t i)))) (zP θ M N)) := by
  refine z_start (own := RX0) (nm := "declared") pnX0 rfl rfl (Nat.le_of_ble_eq_true rfl) ?_
  intro κ hκ hκl C
  change Z κ (zP θ M N) 0 0 0 [(0, .ref (σ 0 (0))), (1, .int (iI (t))), (2, .int (iI (i)))] []
  have hS := hs.S
  have hB := hS.B
  obtain ⟨hB1, hB2, hB3, hB4, hB5, hB6⟩ := hS.B
  have hC := hS.C
  obtain ⟨h81, h82⟩ := hs.r8
  have ri2 := r_i.2
  refine z_aload_n C 1 0 dX0_declared_0 rfl rfl ?_
  refine z_iload_n C 2 1 dX0_declared_1 rfl rfl ?_
  refine z_callV (As := [.int (iI (t))]) (rest := []) C hκ hκl 5 (k0_isType hX hs hw hT (t) r_t) dX0_declared_2 q374 q376 qs1 q90 q377 znX0_isType (Nat.le_of_ble_eq_true rfl) (Nat.le_of_ble_eq_true rfl) (Nat.le_of_ble_eq_true rfl) (Nat.le_of_ble_eq_true rfl) (zrec_P hX.o) rfl rfl (Nat.le_of_ble_eq_true rfl) rfl (fun v9 Q9 h9 => ?_)
  obtain ⟨rfl, rfl⟩ := h9
  refine z_as (st' := [.int (iI (bI (tyB w (t))))]) rfl rfl rfl ?_
  refine z_ifB_eq C 12 8 dX0_declared_5 (by decide) rfl (fun c1 => ?_) (fun c1 => ?_)
  · skip
    have c1b : ¬ (0 ≤ (t) ∧ (t) < w 0 0) := of_decide_eq_false c1
    refine z_iconst C 13 dX0_declared_12 rfl ?_
    exact z_iret C dX0_declared_13 rfl (Nat.le_of_ble_eq_true rfl) (Nat.le_of_ble_eq_true rfl) ⟨congrArg (fun z => some (Value.int (iI z))) (by clear C hκ hκl hS hB hB1 hB2 hB3 hB4 hB5 hB6 hC hw hX hs hT h81 h82; unfold dclI; simp_all [tyB] <;> omega), rfl⟩
  · skip
    have c1b : (0 ≤ (t) ∧ (t) < w 0 0) := of_decide_eq_true c1
    refine z_iload_n C 9 2 dX0_declared_8 rfl rfl ?_
    refine z_if_ge C 14 12 dX0_declared_9 (by decide) r_i rfl (fun c2 => ?_) (fun c2 => ?_)
    · skip
      refine z_iload_n C 15 2 dX0_declared_14 rfl rfl ?_
      refine z_istore_n (lv' := [(0, .ref (σ 0 (0))), (1, .int (iI (t))), (2, .int (iI (i))), (3, .int (iI (i)))]) C 16 [1, 2, 3, 0] dX0_declared_15 (by decide) rfl rfl ?_
      refine z_iconst C 17 dX0_declared_16 rfl ?_
      refine z_istore (lv' := [(0, .ref (σ 0 (0))), (1, .int (iI (t))), (2, .int (iI (i))), (3, .int (iI (i))), (4, .int (iI (0)))]) C 19 [1, 2, 3, 4, 0] dX0_declared_17 (by decide) rfl rfl ?_
      have L19_3 : ∀ (fu : Nat) (k : Nat) (hk : (k : Int) ≤ w 11 0) (hc : (cntN (fun j => decide (w 13 j = t)) k : Int) ≤ i ∧ 0 ≤ i) (hme : (w 11 0).toNat - k < fu), Z κ (zP θ M N) 0 0 19 [(0, .ref (σ 0 (0))), (1, .int (iI (t))), (2, .int (iI (i))), (3, .int (iI (i - (cntN (fun j => decide (w 13 j = t)) k : Nat)))), (4, .int (iI ((k : Int))))] [] := by
        intro fu
        induction fu with
        | zero => intro k hk hc hme; exact absurd hme (Nat.not_lt_zero _)
        | succ fu ih4 =>
          intro k hk hc hme
          refine z_iload C 21 4 dX0_declared_19 rfl rfl ?_
          refine z_aload_n C 22 0 dX0_declared_21 rfl rfl ?_
          refine z_getf C hκ (v := .int (iI (w 11 0))) 25 3 zk_X0 hX.o (by decide) q330 (Or.inl rfl) rfl dX0_declared_22 rfl ?_
          refine z_icmp_ge C 63 28 dX0_declared_25 (by decide) ⟨by omega, by omega⟩ ⟨by omega, by omega⟩ rfl (fun c5 => ?_) (fun c5 => ?_)
          · skip
            refine z_iconst C 64 dX0_declared_63 rfl ?_
            exact z_iret C dX0_declared_64 rfl (Nat.le_of_ble_eq_true rfl) (Nat.le_of_ble_eq_true rfl) ⟨congrArg (fun z => some (Value.int (iI z))) (by unfold dclI; rw [if_neg (by simp_all <;> omega)]; refine (dcl_n ?_).symm; rw [show (w 11 0).toNat = k by omega]; exact hc.1), rfl⟩
          · skip
            refine z_aload_n C 29 0 dX0_declared_28 rfl rfl ?_
            refine z_getf C hκ (v := .ref (σ 2 (0))) 32 2 zk_X0 hX.o (by decide) q329 (Or.inl rfl) rfl dX0_declared_29 rfl ?_
            refine z_iload C 34 4 dX0_declared_32 rfl rfl ?_
            refine x_aM C hκ 35 hX hs (by omega) (by omega) dX0_declared_34 rfl ?_
            obtain ⟨f6a, f6b, f6c, f6d⟩ := hS.M (show 0 ≤ (k : Int) by omega) (by omega)
            refine z_getf C hκ (v := .ref (σ 10 (w 13 ((k : Int))))) 38 1 zk_X9 (hX.mem (by omega) (by omega)) (by decide) q657 (Or.inl rfl) rfl dX0_declared_35 rfl ?_
            refine z_aload_n C 39 0 dX0_declared_38 rfl rfl ?_
            refine z_getf C hκ (v := .ref (σ 1 (0))) 42 0 zk_X0 hX.o (by decide) q325 (Or.inl rfl) rfl dX0_declared_39 rfl ?_
            refine z_iload_n C 43 1 dX0_declared_42 rfl rfl ?_
            refine x_aT C hκ 44 hX hs (by omega) (by omega) dX0_declared_43 rfl ?_
            obtain ⟨f7a, f7b, f7c, f7d, f7e, f7f, f7g, f7h⟩ := hS.T (show 0 ≤ t by omega) (by omega)
            obtain ⟨f7i, f7j, f7k, f7l⟩ := hs.ty (show 0 ≤ t by omega) (by omega)
            have c8i := xo_T hX (a := w 13 ((k : Int))) (b := t) (by omega) (by omega) (by omega) (by omega)
            refine z_acmp_ne C (xo σ 10 (w 13 ((k : Int)))) (xo σ 10 (t)) 57 47 dX0_declared_44 (by decide) rfl (by rw [xo_y (by omega)]; rfl) (by rw [xo_y (by omega)]; rfl) (fun c8 => ?_) (fun c8 => ?_)
            · skip
              have c8b : ¬ (w 13 ((k : Int)) = t) := fun h9 => c8 (c8i.mpr h9); clear c8i
              refine z_iinc (lv' := [(0, .ref (σ 0 (0))), (1, .int (iI (t))), (2, .int (iI (i))), (3, .int (iI (i - (cntN (fun j => decide (w 13 j = t)) k : Nat)))), (4, .int (iI (((k : Int)) + 1)))]) C 60 4 [1, 2, 3, 4, 0] dX0_declared_57 rfl (by decide) rfl rfl ?_
              refine z_goto C 19 dX0_declared_60 (by decide) ?_
              refine z_as (lv' := [(0, .ref (σ 0 (0))), (1, .int (iI (t))), (2, .int (iI (i))), (3, .int (iI (i - (cntN (fun j => decide (w 13 j = t)) (k + 1) : Nat)))), (4, .int (iI (((k + 1) : Int))))]) rfl (congrArg (fun z9 => ([(0, .ref (σ 0 (0))), (1, .int (iI (t))), (2, .int (iI (i))), (3, .int (iI (z9))), (4, .int (iI (((k : Int)) + 1)))] : List (Nat × Value))) (show (i - (cntN (fun j => decide (w 13 j = t)) k : Nat)) = (i - (cntN (fun j => decide (w 13 j = t)) (k + 1) : Nat)) from by clear C hκ hκl hS hB hB1 hB2 hB3 hB4 hB5 hB6 hC hw hX hs hT h81 h82 ih4 hme f6a f6b f6c f6d f7a f7b f7c f7d f7e f7f f7g f7h f7i f7j f7k f7l; simp only [cntN]; simp_all <;> omega)) rfl ?_
              exact ih4 (k + 1) (by omega) (by clear C hκ hκl hS hB hB1 hB2 hB3 hB4 hB5 hB6 hC hw hX hs hT h81 h82 ih4 hme f6a f6b f6c f6d f7a f7b f7c f7d f7e f7f f7g f7h f7i f7j f7k f7l; simp only [cntN]; simp_all <;> omega) (by omega)
            · skip
              have c8b : w 13 ((k : Int)) = t := c8i.mp c8; clear c8i
              refine z_iload_n C 48 3 dX0_declared_47 rfl rfl ?_
              refine z_if_ne C 54 51 dX0_declared_48 (by decide) ⟨by omega, by omega⟩ rfl (fun c9 => ?_) (fun c9 => ?_)
              · skip
                refine z_iinc (lv' := [(0, .ref (σ 0 (0))), (1, .int (iI (t))), (2, .int (iI (i))), (3, .int (iI ((i - (cntN (fun j => decide (w 13 j = t)) k : Nat)) + (-1)))), (4, .int (iI ((k : Int))))]) C 57 3 [1, 2, 3, 0, 4] dX0_declared_54 rfl (by decide) rfl rfl ?_
                refine z_iinc (lv' := [(0, .ref (σ 0 (0))), (1, .int (iI (t))), (2, .int (iI (i))), (3, .int (iI ((i - (cntN (fun j => decide (w 13 j = t)) k : Nat)) + (-1)))), (4, .int (iI (((k : Int)) + 1)))]) C 60 4 [1, 2, 3, 4, 0] dX0_declared_57 rfl (by decide) rfl rfl ?_
                refine z_goto C 19 dX0_declared_60 (by decide) ?_
                refine z_as (lv' := [(0, .ref (σ 0 (0))), (1, .int (iI (t))), (2, .int (iI (i))), (3, .int (iI (i - (cntN (fun j => decide (w 13 j = t)) (k + 1) : Nat)))), (4, .int (iI (((k + 1) : Int))))]) rfl (congrArg (fun z9 => ([(0, .ref (σ 0 (0))), (1, .int (iI (t))), (2, .int (iI (i))), (3, .int (iI (z9))), (4, .int (iI (((k : Int)) + 1)))] : List (Nat × Value))) (show ((i - (cntN (fun j => decide (w 13 j = t)) k : Nat)) + (-1)) = (i - (cntN (fun j => decide (w 13 j = t)) (k + 1) : Nat)) from by clear C hκ hκl hS hB hB1 hB2 hB3 hB4 hB5 hB6 hC hw hX hs hT h81 h82 ih4 hme f6a f6b f6c f6d f7a f7b f7c f7d f7e f7f f7g f7h f7i f7j f7k f7l; simp only [cntN]; simp_all <;> omega)) rfl ?_
                exact ih4 (k + 1) (by omega) (by clear C hκ hκl hS hB hB1 hB2 hB3 hB4 hB5 hB6 hC hw hX hs hT h81 h82 ih4 hme f6a f6b f6c f6d f7a f7b f7c f7d f7e f7f f7g f7h f7i f7j f7k f7l; simp only [cntN]; simp_all <;> omega) (by omega)
              · skip
                refine z_iload C 53 4 dX0_declared_51 rfl rfl ?_
                exact z_iret C dX0_declared_53 rfl (Nat.le_of_ble_eq_true rfl) (Nat.le_of_ble_eq_true rfl) ⟨congrArg (fun z => some (Value.int (iI z))) (by unfold dclI; rw [if_neg (by simp_all <;> omega)]; exact (dcl_t (by omega) (by assumption) (by omega)).symm), rfl⟩
      refine z_as (lv' := [(0, .ref (σ 0 (0))), (1, .int (iI (t))), (2, .int (iI (i))), (3, .int (iI (i - (cntN (fun j => decide (w 13 j = t)) (0) : Nat)))), (4, .int (iI (((0) : Int))))]) rfl (congrArg (fun z9 => ([(0, .ref (σ 0 (0))), (1, .int (iI (t))), (2, .int (iI (i))), (3, .int (iI (z9))), (4, .int (iI (0)))] : List (Nat × Value))) (show (i) = (i - (cntN (fun j => decide (w 13 j = t)) (0) : Nat)) from by simp [cntN])) rfl ?_
      exact L19_3 _ (0) (by omega) (by simp only [cntN]; omega) (Nat.lt_succ_self _)
    · skip
      refine z_iconst C 13 dX0_declared_12 rfl ?_
      exact z_iret C dX0_declared_13 rfl (Nat.le_of_ble_eq_true rfl) (Nat.le_of_ble_eq_true rfl) ⟨congrArg (fun z => some (Value.int (iI z))) (by clear C hκ hκl hS hB hB1 hB2 hB3 hB4 hB5 hB6 hC hw hX hs hT h81 h82; unfold dclI; simp_all [tyB] <;> omega), rfl⟩
set_option maxRecDepth 100000 in
theorem k0_thing {l : Launch} {θ : zTh} {σ : xA} {w : mW} {Lf : Int → List Int} {M N : zMap} (hX : xM θ σ w (Lf) M) (hs : xS w) (hw : mWF w) (hT : zTb θ) (x : Int) (k : Int) (r_x : inR x) (r_k : inR k)  : ZM θ l yX0_thing cX0_thing 4 (some .int) ⟨2, 0, 0, 46⟩ [.ref (σ 0 (0)), .int (iI (x)), .int (iI (k))] (zP θ M N) (zFn (some (.int (iI (thI w x k)))) (zP θ M N)) := by
  refine z_start (own := RX0) (nm := "thing") pnX0 rfl rfl (Nat.le_of_ble_eq_true rfl) ?_
  intro κ hκ hκl C
  change Z κ (zP θ M N) 0 0 0 [(0, .ref (σ 0 (0))), (1, .int (iI (x))), (2, .int (iI (k)))] []
  have hS := hs.S
  have hB := hS.B
  obtain ⟨hB1, hB2, hB3, hB4, hB5, hB6⟩ := hS.B
  have hC := hS.C
  obtain ⟨h81, h82⟩ := hs.r8
  refine z_aload_n C 1 0 dX0_thing_0 rfl rfl ?_
  refine z_iload_n C 2 1 dX0_thing_1 rfl rfl ?_
  refine z_callV (As := [.int (iI (x))]) (rest := []) C hκ hκl 5 (k0_isThing hX hs hw hT (x) r_x) dX0_thing_2 q1241 q1243 qs11 q90 q1244 znX0_isThing (Nat.le_of_ble_eq_true rfl) (Nat.le_of_ble_eq_true rfl) (Nat.le_of_ble_eq_true rfl) (Nat.le_of_ble_eq_true rfl) (zrec_P hX.o) rfl rfl (Nat.le_of_ble_eq_true rfl) rfl (fun v9 Q9 h9 => ?_)
  obtain ⟨rfl, rfl⟩ := h9
  refine z_as (st' := [.int (iI (bI (tnB w (x))))]) rfl rfl rfl ?_
  refine z_ifB_eq C 18 8 dX0_thing_5 (by decide) rfl (fun c1 => ?_) (fun c1 => ?_)
  · skip
    have c1b : ¬ ((x) = -1 ∨ (0 ≤ (x) ∧ (x) < w 27 0)) := of_decide_eq_false c1
    refine z_bipush C 20 dX0_thing_18 (by decide) rfl ?_
    exact z_iret C dX0_thing_20 rfl (Nat.le_of_ble_eq_true rfl) (Nat.le_of_ble_eq_true rfl) ⟨congrArg (fun z => some (Value.int (iI z))) (by clear C hκ hκl hS hB hB1 hB2 hB3 hB4 hB5 hB6 hC hw hX hs hT h81 h82; first | (simp_all [thI]; done) | (simp_all [thI] <;> omega) | (grind [thI]) | (simp [thI] at * <;> omega)), rfl⟩
  · skip
    have c1b : ((x) = -1 ∨ (0 ≤ (x) ∧ (x) < w 27 0)) := of_decide_eq_true c1
    refine z_iload_n C 9 2 dX0_thing_8 rfl rfl ?_
    refine z_i2l C 10 dX0_thing_9 r_k rfl ?_
    refine z_lconst (x := 0) C 11 dX0_thing_10 rfl rfl ?_
    refine z_lconst (x := 1) C 12 dX0_thing_11 rfl rfl ?_
    refine z_callS (As := [.long (lI (k)), .long (lI (0)), .long (lI (1))]) (rest := []) C hκ hκl 15 (k0_isIn hT (k) (0) (1) (inR_L r_k) ⟨by decide, by decide⟩ ⟨by decide, by decide⟩) dX0_thing_12 q378 q379 q90 q380 znX0_isIn (Nat.le_of_ble_eq_true rfl) (Nat.le_of_ble_eq_true rfl) (Nat.le_of_ble_eq_true rfl) (Nat.le_of_ble_eq_true rfl) rfl (Nat.le_of_ble_eq_true rfl) rfl (fun v9 Q9 h9 => ?_)
    obtain ⟨rfl, rfl⟩ := h9
    refine z_as (st' := [.int (iI (bI (decide ((0) ≤ (k) ∧ (k) ≤ (1)))))]) rfl rfl rfl ?_
    refine z_ifB_ne C 21 18 dX0_thing_15 (by decide) rfl (fun c2 => ?_) (fun c2 => ?_)
    · skip
      have c2b : (((0) ≤ (k) ∧ (k) ≤ (1))) := of_decide_eq_true c2
      refine z_iload_n C 22 1 dX0_thing_21 rfl rfl ?_
      refine z_iconst C 23 dX0_thing_22 rfl ?_
      refine z_icmp_ne C 28 26 dX0_thing_23 (by decide) r_x ⟨by decide, by decide⟩ rfl (fun c3 => ?_) (fun c3 => ?_)
      · skip
        refine z_aload_n C 29 0 dX0_thing_28 rfl rfl ?_
        refine z_getf C hκ (v := .ref (σ 3 (0))) 32 5 zk_X0 hX.o (by decide) q332 (Or.inl rfl) rfl dX0_thing_29 rfl ?_
        refine z_iload_n C 33 1 dX0_thing_32 rfl rfl ?_
        refine x_aX C hκ 34 hX hs (by omega) (by omega) dX0_thing_33 rfl ?_
        obtain ⟨f4a, f4b, f4c⟩ := hS.X (show 0 ≤ x by omega) (by omega)
        refine z_astore_n (lv' := [(0, .ref (σ 0 (0))), (1, .int (iI (x))), (2, .int (iI (k))), (3, .ref (σ 30 (x)))]) C 35 [1, 2, 3, 0] dX0_thing_34 (by decide) rfl rfl ?_
        refine z_iload_n C 36 2 dX0_thing_35 rfl rfl ?_
        refine z_if_ne C 49 39 dX0_thing_36 (by decide) r_k rfl (fun c5 => ?_) (fun c5 => ?_)
        · skip
          refine z_aload_n C 50 3 dX0_thing_49 rfl rfl ?_
          refine x_isMany C hκ hT 53 hX (by omega) (by omega) q1674 dX0_thing_50 rfl ?_
          refine z_as (st' := [.int (iI (bI (decide (w 29 (x) ≠ -1))))]) rfl rfl rfl ?_
          refine z_ifB_eq C 66 56 dX0_thing_53 (by decide) rfl (fun c6 => ?_) (fun c6 => ?_)
          · skip
            have c6b : ¬ ((w 29 (x) ≠ -1)) := of_decide_eq_false c6
            refine z_aload_n C 67 3 dX0_thing_66 rfl rfl ?_
            refine z_callS (As := [.ref (σ 30 (x))]) (rest := []) C hκ hκl 70 (k17_requireNonNull hT (σ 30 (x)) ) dX0_thing_67 q1897 q1898 q138 q1899 znJ17_requireNonNull (Nat.le_of_ble_eq_true rfl) (Nat.le_of_ble_eq_true rfl) (Nat.le_of_ble_eq_true rfl) (Nat.le_of_ble_eq_true rfl) rfl (Nat.le_of_ble_eq_true rfl) rfl (fun v9 Q9 h9 => ?_)
            obtain ⟨rfl, rfl⟩ := h9
            refine z_as (st' := [.ref ((σ 30 (x)))]) rfl rfl rfl ?_
            refine z_pop C 71 dX0_thing_70 rfl rfl ?_
            refine z_iconst C 72 dX0_thing_71 rfl ?_
            exact z_iret C dX0_thing_72 rfl (Nat.le_of_ble_eq_true rfl) (Nat.le_of_ble_eq_true rfl) ⟨congrArg (fun z => some (Value.int (iI z))) (by clear C hκ hκl hS hB hB1 hB2 hB3 hB4 hB5 hB6 hC hw hX hs hT h81 h82 f4a f4b f4c; first | (simp_all [thI]; done) | (simp_all [thI] <;> omega) | (grind [thI]) | (simp [thI] at * <;> omega)), rfl⟩
          · skip
            have c6b : ((w 29 (x) ≠ -1)) := of_decide_eq_true c6
            refine z_aload_n C 57 3 dX0_thing_56 rfl rfl ?_
            have y7 : w 29 (x) ≠ -1 := (by omega)
            refine z_castS C hκ 60 (hX.many (by omega) (by omega) y7) rfl q1674 dX0_thing_57 rfl ?_
            refine z_getf C hκ (v := .int (iI (w 29 (x)))) 63 4 zk_X27 (hX.many (by omega) (by omega) y7) (by decide) q1884 (Or.inl rfl) rfl dX0_thing_60 rfl ?_
            refine z_goto C 72 dX0_thing_63 (by decide) ?_
            exact z_iret C dX0_thing_72 rfl (Nat.le_of_ble_eq_true rfl) (Nat.le_of_ble_eq_true rfl) ⟨congrArg (fun z => some (Value.int (iI z))) (by clear C hκ hκl hS hB hB1 hB2 hB3 hB4 hB5 hB6 hC hw hX hs hT h81 h82 f4a f4b f4c; first | (simp_all [thI]; done) | (simp_all [thI] <;> omega) | (grind [thI]) | (simp [thI] at * <;> omega)), rfl⟩
        · skip
          refine z_aload_n C 40 3 dX0_thing_39 rfl rfl ?_
          refine x_pget (v := .ref (σ 10 (w 28 (x)))) C hκ 43 1 hX (by omega) (by omega) (by decide) rfl q1274 (Or.inl rfl) rfl dX0_thing_40 rfl ?_
          obtain ⟨f8a, f8b, f8c, f8d, f8e, f8f, f8g, f8h⟩ := hS.T (show 0 ≤ w 28 (x) by omega) (by omega)
          obtain ⟨f8i, f8j, f8k, f8l⟩ := hs.ty (show 0 ≤ w 28 (x) by omega) (by omega)
          refine xv_number (rest := []) C hκ hκl hX hs hw hT (w 28 (x))   ⟨(by omega), (by omega)⟩  46 dX0_thing_43 q396 (Nat.le_of_ble_eq_true rfl) (Nat.le_of_ble_eq_true rfl) (Nat.le_of_ble_eq_true rfl) (Nat.le_of_ble_eq_true rfl) (Nat.le_of_ble_eq_true rfl) rfl ?_
          refine z_as (st' := [.int (iI ((w 28 (x))))]) rfl rfl rfl ?_
          refine z_goto C 72 dX0_thing_46 (by decide) ?_
          exact z_iret C dX0_thing_72 rfl (Nat.le_of_ble_eq_true rfl) (Nat.le_of_ble_eq_true rfl) ⟨congrArg (fun z => some (Value.int (iI z))) (by clear C hκ hκl hS hB hB1 hB2 hB3 hB4 hB5 hB6 hC hw hX hs hT h81 h82 f4a f4b f4c f8a f8b f8c f8d f8e f8f f8g f8h f8i f8j f8k f8l; first | (simp_all [thI]; done) | (simp_all [thI] <;> omega) | (grind [thI]) | (simp [thI] at * <;> omega)), rfl⟩
      · skip
        refine z_iconst C 27 dX0_thing_26 rfl ?_
        exact z_iret C dX0_thing_27 rfl (Nat.le_of_ble_eq_true rfl) (Nat.le_of_ble_eq_true rfl) ⟨congrArg (fun z => some (Value.int (iI z))) (by clear C hκ hκl hS hB hB1 hB2 hB3 hB4 hB5 hB6 hC hw hX hs hT h81 h82; first | (simp_all [thI]; done) | (simp_all [thI] <;> omega) | (grind [thI]) | (simp [thI] at * <;> omega)), rfl⟩
    · skip
      have c2b : ¬ (((0) ≤ (k) ∧ (k) ≤ (1))) := of_decide_eq_false c2
      refine z_bipush C 20 dX0_thing_18 (by decide) rfl ?_
      exact z_iret C dX0_thing_20 rfl (Nat.le_of_ble_eq_true rfl) (Nat.le_of_ble_eq_true rfl) ⟨congrArg (fun z => some (Value.int (iI z))) (by clear C hκ hκl hS hB hB1 hB2 hB3 hB4 hB5 hB6 hC hw hX hs hT h81 h82; first | (simp_all [thI]; done) | (simp_all [thI] <;> omega) | (grind [thI]) | (simp [thI] at * <;> omega)), rfl⟩
set_option maxRecDepth 100000 in
theorem k0_isFit {l : Launch} {θ : zTh} {σ : xA} {w : mW} {Lf : Int → List Int} {M N : zMap} (hX : xM θ σ w (Lf) M) (hs : xS w) (hw : mWF w) (hT : zTb θ) (a : Int) (b : Int) (r_a : inR a) (r_b : inL b) (ha : 0 ≤ a ∧ a ≤ 8) : ZM θ l yX0_isFit cX0_isFit 4 (some .boolean) ⟨1, 0, 0, 25⟩ [.ref (σ 0 (0)), .int (iI (a)), .long (lI (b))] (zP θ M N) (zFn (some (.int (iI (bI (ftB w a b))))) (zP θ M N)) := by
  refine z_start (own := RX0) (nm := "isFit") pnX0 rfl rfl (Nat.le_of_ble_eq_true rfl) ?_
  intro κ hκ hκl C
  change Z κ (zP θ M N) 0 0 0 [(0, .ref (σ 0 (0))), (1, .int (iI (a))), (2, .long (lI (b)))] []
  have hS := hs.S
  have hB := hS.B
  obtain ⟨hB1, hB2, hB3, hB4, hB5, hB6⟩ := hS.B
  have hC := hS.C
  obtain ⟨h81, h82⟩ := hs.r8
  have e8 := w8_iff (b := b)
  have e16 := w16_iff (b := b)
  have e32 := w32_iff (b := b)
  refine z_iload_n C 1 1 dX0_isFit_0 rfl rfl ?_
  have c1r : inR (a) := r_a
  rcases (show a = 0 ∨ a = 1 ∨ a = 2 ∨ a = 3 ∨ a = 4 ∨ a = 5 ∨ a = 6 ∨ a = 7 ∨ (a < 0 ∨ 7 < a) by omega) with c1 | c1 | c1 | c1 | c1 | c1 | c1 | c1 | c1
  · skip
    refine z_tsIn C (a) 48 (off := 47) dX0_isFit_1 c1r (by omega) (by omega) (by rw [c1]; rfl) (by decide) ?_
    refine z_lload_n C 49 2 dX0_isFit_48 rfl rfl ?_
    refine z_lconst (x := 0) C 50 dX0_isFit_49 rfl rfl ?_
    refine z_lconst (x := 1) C 51 dX0_isFit_50 rfl rfl ?_
    refine z_callS (As := [.long (lI (b)), .long (lI (0)), .long (lI (1))]) (rest := []) C hκ hκl 54 (k0_isIn hT (b) (0) (1) r_b ⟨by decide, by decide⟩ ⟨by decide, by decide⟩) dX0_isFit_51 q378 q379 q90 q380 znX0_isIn (Nat.le_of_ble_eq_true rfl) (Nat.le_of_ble_eq_true rfl) (Nat.le_of_ble_eq_true rfl) (Nat.le_of_ble_eq_true rfl) rfl (Nat.le_of_ble_eq_true rfl) rfl (fun v9 Q9 h9 => ?_)
    obtain ⟨rfl, rfl⟩ := h9
    refine z_as (st' := [.int (iI (bI (decide ((0) ≤ (b) ∧ (b) ≤ (1)))))]) rfl rfl rfl ?_
    exact z_iret C dX0_isFit_54 (bI_nar _) (Nat.le_of_ble_eq_true rfl) (Nat.le_of_ble_eq_true rfl) ⟨congrArg (fun b => some (Value.int (iI (bI b)))) (by clear C hκ hκl hS hB hB1 hB2 hB3 hB4 hB5 hB6 hC hw hX hs hT h81 h82; clear e8 e16 e32; unfold ftB; rw [eq_comm]; first | (simp_all; done) | (simp_all <;> omega) | grind), rfl⟩
  · skip
    refine z_tsIn C (a) 55 (off := 54) dX0_isFit_1 c1r (by omega) (by omega) (by rw [c1]; rfl) (by decide) ?_
    refine z_lload_n C 56 2 dX0_isFit_55 rfl rfl ?_
    refine z_lconst (x := 0) C 57 dX0_isFit_56 rfl rfl ?_
    refine z_ldc2 (z := 65535) C 60 dX0_isFit_57 q1914 (by decide) rfl ?_
    refine z_callS (As := [.long (lI (b)), .long (lI (0)), .long (lI (65535))]) (rest := []) C hκ hκl 63 (k0_isIn hT (b) (0) (65535) r_b ⟨by decide, by decide⟩ ⟨by decide, by decide⟩) dX0_isFit_60 q378 q379 q90 q380 znX0_isIn (Nat.le_of_ble_eq_true rfl) (Nat.le_of_ble_eq_true rfl) (Nat.le_of_ble_eq_true rfl) (Nat.le_of_ble_eq_true rfl) rfl (Nat.le_of_ble_eq_true rfl) rfl (fun v9 Q9 h9 => ?_)
    obtain ⟨rfl, rfl⟩ := h9
    refine z_as (st' := [.int (iI (bI (decide ((0) ≤ (b) ∧ (b) ≤ (65535)))))]) rfl rfl rfl ?_
    exact z_iret C dX0_isFit_63 (bI_nar _) (Nat.le_of_ble_eq_true rfl) (Nat.le_of_ble_eq_true rfl) ⟨congrArg (fun b => some (Value.int (iI (bI b)))) (by clear C hκ hκl hS hB hB1 hB2 hB3 hB4 hB5 hB6 hC hw hX hs hT h81 h82; clear e8 e16 e32; unfold ftB; rw [eq_comm]; first | (simp_all; done) | (simp_all <;> omega) | grind), rfl⟩
  · skip
    refine z_tsIn C (a) 64 (off := 63) dX0_isFit_1 c1r (by omega) (by omega) (by rw [c1]; rfl) (by decide) ?_
    refine z_lload_n C 65 2 dX0_isFit_64 rfl rfl ?_
    refine z_lload_n C 66 2 dX0_isFit_65 rfl rfl ?_
    refine z_l2i C 67 dX0_isFit_66 rfl ?_
    refine z_i2b C 68 dX0_isFit_67 rfl ?_
    refine z_as (st' := [.int (iI (w8 (b))), .long (lI (b))]) rfl rfl (congrArg (fun z9 => ([.int z9, .long (lI (b))] : List Value)) (iI_w8 _).symm) ?_
    refine z_i2l C 69 dX0_isFit_68 (w8_R _) rfl ?_
    refine z_lcmp C 70 dX0_isFit_69 r_b (inR_L (w8_R _)) rfl ?_
    refine z_ifC_ne C 77 73 dX0_isFit_70 (by decide) rfl (fun c2 => ?_) (fun c2 => ?_)
    · skip
      refine z_iconst C 78 dX0_isFit_77 rfl ?_
      refine z_as (st' := [.int (iI (bI (false)))]) rfl rfl rfl ?_
      exact z_iret C dX0_isFit_78 (bI_nar _) (Nat.le_of_ble_eq_true rfl) (Nat.le_of_ble_eq_true rfl) ⟨congrArg (fun b => some (Value.int (iI (bI b)))) (by clear C hκ hκl hS hB hB1 hB2 hB3 hB4 hB5 hB6 hC hw hX hs hT h81 h82; unfold ftB; rw [if_neg (by omega), if_neg (by omega), if_pos (by omega)]; first | exact (decide_eq_true (e8.mp (by assumption))).symm | exact (decide_eq_false (fun h => absurd (e8.mpr h) (by assumption))).symm), rfl⟩
    · skip
      refine z_iconst C 74 dX0_isFit_73 rfl ?_
      refine z_goto C 78 dX0_isFit_74 (by decide) ?_
      refine z_as (st' := [.int (iI (bI (true)))]) rfl rfl rfl ?_
      exact z_iret C dX0_isFit_78 (bI_nar _) (Nat.le_of_ble_eq_true rfl) (Nat.le_of_ble_eq_true rfl) ⟨congrArg (fun b => some (Value.int (iI (bI b)))) (by clear C hκ hκl hS hB hB1 hB2 hB3 hB4 hB5 hB6 hC hw hX hs hT h81 h82; unfold ftB; rw [if_neg (by omega), if_neg (by omega), if_pos (by omega)]; first | exact (decide_eq_true (e8.mp (by assumption))).symm | exact (decide_eq_false (fun h => absurd (e8.mpr h) (by assumption))).symm), rfl⟩
  · skip
    refine z_tsIn C (a) 79 (off := 78) dX0_isFit_1 c1r (by omega) (by omega) (by rw [c1]; rfl) (by decide) ?_
    refine z_lload_n C 80 2 dX0_isFit_79 rfl rfl ?_
    refine z_lload_n C 81 2 dX0_isFit_80 rfl rfl ?_
    refine z_l2i C 82 dX0_isFit_81 rfl ?_
    refine z_i2s C 83 dX0_isFit_82 rfl ?_
    refine z_as (st' := [.int (iI (w16 (b))), .long (lI (b))]) rfl rfl (congrArg (fun z9 => ([.int z9, .long (lI (b))] : List Value)) (iI_w16 _).symm) ?_
    refine z_i2l C 84 dX0_isFit_83 (w16_R _) rfl ?_
    refine z_lcmp C 85 dX0_isFit_84 r_b (inR_L (w16_R _)) rfl ?_
    refine z_ifC_ne C 92 88 dX0_isFit_85 (by decide) rfl (fun c3 => ?_) (fun c3 => ?_)
    · skip
      refine z_iconst C 93 dX0_isFit_92 rfl ?_
      refine z_as (st' := [.int (iI (bI (false)))]) rfl rfl rfl ?_
      exact z_iret C dX0_isFit_93 (bI_nar _) (Nat.le_of_ble_eq_true rfl) (Nat.le_of_ble_eq_true rfl) ⟨congrArg (fun b => some (Value.int (iI (bI b)))) (by clear C hκ hκl hS hB hB1 hB2 hB3 hB4 hB5 hB6 hC hw hX hs hT h81 h82; unfold ftB; rw [if_neg (by omega), if_neg (by omega), if_neg (by omega), if_pos (by omega)]; first | exact (decide_eq_true (e16.mp (by assumption))).symm | exact (decide_eq_false (fun h => absurd (e16.mpr h) (by assumption))).symm), rfl⟩
    · skip
      refine z_iconst C 89 dX0_isFit_88 rfl ?_
      refine z_goto C 93 dX0_isFit_89 (by decide) ?_
      refine z_as (st' := [.int (iI (bI (true)))]) rfl rfl rfl ?_
      exact z_iret C dX0_isFit_93 (bI_nar _) (Nat.le_of_ble_eq_true rfl) (Nat.le_of_ble_eq_true rfl) ⟨congrArg (fun b => some (Value.int (iI (bI b)))) (by clear C hκ hκl hS hB hB1 hB2 hB3 hB4 hB5 hB6 hC hw hX hs hT h81 h82; unfold ftB; rw [if_neg (by omega), if_neg (by omega), if_neg (by omega), if_pos (by omega)]; first | exact (decide_eq_true (e16.mp (by assumption))).symm | exact (decide_eq_false (fun h => absurd (e16.mpr h) (by assumption))).symm), rfl⟩
  · skip
    refine z_tsIn C (a) 94 (off := 93) dX0_isFit_1 c1r (by omega) (by omega) (by rw [c1]; rfl) (by decide) ?_
    refine z_lload_n C 95 2 dX0_isFit_94 rfl rfl ?_
    refine z_lload_n C 96 2 dX0_isFit_95 rfl rfl ?_
    refine z_l2i C 97 dX0_isFit_96 rfl ?_
    refine z_as (st' := [.int (iI (w32 (b))), .long (lI (b))]) rfl rfl (congrArg (fun z9 => ([.int z9, .long (lI (b))] : List Value)) (iI_w32 _).symm) ?_
    refine z_i2l C 98 dX0_isFit_97 (w32_R _) rfl ?_
    refine z_lcmp C 99 dX0_isFit_98 r_b (inR_L (w32_R _)) rfl ?_
    refine z_ifC_ne C 106 102 dX0_isFit_99 (by decide) rfl (fun c4 => ?_) (fun c4 => ?_)
    · skip
      refine z_iconst C 107 dX0_isFit_106 rfl ?_
      refine z_as (st' := [.int (iI (bI (false)))]) rfl rfl rfl ?_
      exact z_iret C dX0_isFit_107 (bI_nar _) (Nat.le_of_ble_eq_true rfl) (Nat.le_of_ble_eq_true rfl) ⟨congrArg (fun b => some (Value.int (iI (bI b)))) (by clear C hκ hκl hS hB hB1 hB2 hB3 hB4 hB5 hB6 hC hw hX hs hT h81 h82; unfold ftB; rw [if_neg (by omega), if_neg (by omega), if_neg (by omega), if_neg (by omega), if_pos (by omega)]; first | exact (decide_eq_true (e32.mp (by assumption))).symm | exact (decide_eq_false (fun h => absurd (e32.mpr h) (by assumption))).symm), rfl⟩
    · skip
      refine z_iconst C 103 dX0_isFit_102 rfl ?_
      refine z_goto C 107 dX0_isFit_103 (by decide) ?_
      refine z_as (st' := [.int (iI (bI (true)))]) rfl rfl rfl ?_
      exact z_iret C dX0_isFit_107 (bI_nar _) (Nat.le_of_ble_eq_true rfl) (Nat.le_of_ble_eq_true rfl) ⟨congrArg (fun b => some (Value.int (iI (bI b)))) (by clear C hκ hκl hS hB hB1 hB2 hB3 hB4 hB5 hB6 hC hw hX hs hT h81 h82; unfold ftB; rw [if_neg (by omega), if_neg (by omega), if_neg (by omega), if_neg (by omega), if_pos (by omega)]; first | exact (decide_eq_true (e32.mp (by assumption))).symm | exact (decide_eq_false (fun h => absurd (e32.mpr h) (by assumption))).symm), rfl⟩
  · skip
    refine z_tsIn C (a) 108 (off := 107) dX0_isFit_1 c1r (by omega) (by omega) (by rw [c1]; rfl) (by decide) ?_
    refine z_iconst C 109 dX0_isFit_108 rfl ?_
    refine z_as (st' := [.int (iI (bI (true)))]) rfl rfl rfl ?_
    exact z_iret C dX0_isFit_109 (bI_nar _) (Nat.le_of_ble_eq_true rfl) (Nat.le_of_ble_eq_true rfl) ⟨congrArg (fun b => some (Value.int (iI (bI b)))) (by clear C hκ hκl hS hB hB1 hB2 hB3 hB4 hB5 hB6 hC hw hX hs hT h81 h82; clear e8 e16 e32; unfold ftB; rw [eq_comm]; first | (simp_all; done) | (simp_all <;> omega) | grind), rfl⟩
  · skip
    refine z_tsIn C (a) 110 (off := 109) dX0_isFit_1 c1r (by omega) (by omega) (by rw [c1]; rfl) (by decide) ?_
    refine z_lload_n C 111 2 dX0_isFit_110 rfl rfl ?_
    refine z_lload_n C 112 2 dX0_isFit_111 rfl rfl ?_
    refine z_l2i C 113 dX0_isFit_112 rfl ?_
    refine z_as (st' := [.int (iI (w32 (b))), .long (lI (b))]) rfl rfl (congrArg (fun z9 => ([.int z9, .long (lI (b))] : List Value)) (iI_w32 _).symm) ?_
    refine z_i2l C 114 dX0_isFit_113 (w32_R _) rfl ?_
    refine z_lcmp C 115 dX0_isFit_114 r_b (inR_L (w32_R _)) rfl ?_
    refine z_ifC_ne C 134 118 dX0_isFit_115 (by decide) rfl (fun c5 => ?_) (fun c5 => ?_)
    · skip
      refine z_iconst C 135 dX0_isFit_134 rfl ?_
      refine z_as (st' := [.int (iI (bI (false)))]) rfl rfl rfl ?_
      exact z_iret C dX0_isFit_135 (bI_nar _) (Nat.le_of_ble_eq_true rfl) (Nat.le_of_ble_eq_true rfl) ⟨congrArg (fun b => some (Value.int (iI (bI b)))) (by clear C hκ hκl hS hB hB1 hB2 hB3 hB4 hB5 hB6 hC hw hX hs hT h81 h82; unfold ftB; rw [if_neg (by omega), if_neg (by omega), if_neg (by omega), if_neg (by omega), if_neg (by omega), if_neg (by omega), if_pos (by omega)]; first | exact (by rw [decide_eq_true (e32.mp (by assumption)), decide_eq_true (by omega)]; rfl) | exact (by rw [decide_eq_true (e32.mp (by assumption)), decide_eq_false (by omega)]; rfl) | exact (by rw [decide_eq_false (fun h => absurd (e32.mpr h) (by assumption))]; rfl)), rfl⟩
    · skip
      refine z_lload_n C 119 2 dX0_isFit_118 rfl rfl ?_
      refine z_ldc2 (z := 2147483647) C 122 dX0_isFit_119 q1915 (by decide) rfl ?_
      refine z_land C 123 dX0_isFit_122 rfl ?_
      refine z_ldc2 (z := 2139095040) C 126 dX0_isFit_123 q1916 (by decide) rfl ?_
      refine z_lcmp C 127 dX0_isFit_126 (inL_zlandd _ _) ⟨by decide, by decide⟩ rfl ?_
      refine z_ifC_gt C 134 130 dX0_isFit_127 (by decide) rfl (fun c6 => ?_) (fun c6 => ?_)
      · skip
        refine z_iconst C 135 dX0_isFit_134 rfl ?_
        refine z_as (st' := [.int (iI (bI (false)))]) rfl rfl rfl ?_
        exact z_iret C dX0_isFit_135 (bI_nar _) (Nat.le_of_ble_eq_true rfl) (Nat.le_of_ble_eq_true rfl) ⟨congrArg (fun b => some (Value.int (iI (bI b)))) (by clear C hκ hκl hS hB hB1 hB2 hB3 hB4 hB5 hB6 hC hw hX hs hT h81 h82; unfold ftB; rw [if_neg (by omega), if_neg (by omega), if_neg (by omega), if_neg (by omega), if_neg (by omega), if_neg (by omega), if_pos (by omega)]; first | exact (by rw [decide_eq_true (e32.mp (by assumption)), decide_eq_true (by omega)]; rfl) | exact (by rw [decide_eq_true (e32.mp (by assumption)), decide_eq_false (by omega)]; rfl) | exact (by rw [decide_eq_false (fun h => absurd (e32.mpr h) (by assumption))]; rfl)), rfl⟩
      · skip
        refine z_iconst C 131 dX0_isFit_130 rfl ?_
        refine z_goto C 135 dX0_isFit_131 (by decide) ?_
        refine z_as (st' := [.int (iI (bI (true)))]) rfl rfl rfl ?_
        exact z_iret C dX0_isFit_135 (bI_nar _) (Nat.le_of_ble_eq_true rfl) (Nat.le_of_ble_eq_true rfl) ⟨congrArg (fun b => some (Value.int (iI (bI b)))) (by clear C hκ hκl hS hB hB1 hB2 hB3 hB4 hB5 hB6 hC hw hX hs hT h81 h82; unfold ftB; rw [if_neg (by omega), if_neg (by omega), if_neg (by omega), if_neg (by omega), if_neg (by omega), if_neg (by omega), if_pos (by omega)]; first | exact (by rw [decide_eq_true (e32.mp (by assumption)), decide_eq_true (by omega)]; rfl) | exact (by rw [decide_eq_true (e32.mp (by assumption)), decide_eq_false (by omega)]; rfl) | exact (by rw [decide_eq_false (fun h => absurd (e32.mpr h) (by assumption))]; rfl)), rfl⟩
  · skip
    refine z_tsIn C (a) 136 (off := 135) dX0_isFit_1 c1r (by omega) (by omega) (by rw [c1]; rfl) (by decide) ?_
    refine z_lload_n C 137 2 dX0_isFit_136 rfl rfl ?_
    refine z_ldc2 (z := 9223372036854775807) C 140 dX0_isFit_137 q1917 (by decide) rfl ?_
    refine z_land C 141 dX0_isFit_140 rfl ?_
    refine z_ldc2 (z := 9218868437227405312) C 144 dX0_isFit_141 q1918 (by decide) rfl ?_
    refine z_lcmp C 145 dX0_isFit_144 (inL_zlandd _ _) ⟨by decide, by decide⟩ rfl ?_
    refine z_ifC_gt C 152 148 dX0_isFit_145 (by decide) rfl (fun c7 => ?_) (fun c7 => ?_)
    · skip
      refine z_iconst C 153 dX0_isFit_152 rfl ?_
      refine z_as (st' := [.int (iI (bI (false)))]) rfl rfl rfl ?_
      exact z_iret C dX0_isFit_153 (bI_nar _) (Nat.le_of_ble_eq_true rfl) (Nat.le_of_ble_eq_true rfl) ⟨congrArg (fun b => some (Value.int (iI (bI b)))) (by clear C hκ hκl hS hB hB1 hB2 hB3 hB4 hB5 hB6 hC hw hX hs hT h81 h82; clear e8 e16 e32; unfold ftB; rw [eq_comm]; first | (simp_all; done) | (simp_all <;> omega) | grind), rfl⟩
    · skip
      refine z_iconst C 149 dX0_isFit_148 rfl ?_
      refine z_goto C 153 dX0_isFit_149 (by decide) ?_
      refine z_as (st' := [.int (iI (bI (true)))]) rfl rfl rfl ?_
      exact z_iret C dX0_isFit_153 (bI_nar _) (Nat.le_of_ble_eq_true rfl) (Nat.le_of_ble_eq_true rfl) ⟨congrArg (fun b => some (Value.int (iI (bI b)))) (by clear C hκ hκl hS hB hB1 hB2 hB3 hB4 hB5 hB6 hC hw hX hs hT h81 h82; clear e8 e16 e32; unfold ftB; rw [eq_comm]; first | (simp_all; done) | (simp_all <;> omega) | grind), rfl⟩
  · skip
    refine z_tsOut C 154 dX0_isFit_1 c1r c1 (by decide) ?_
    refine z_lload_n C 155 2 dX0_isFit_154 rfl rfl ?_
    refine z_ldc2 (z := (-1)) C 158 dX0_isFit_155 q753 (by decide) rfl ?_
    refine z_aload_n C 159 0 dX0_isFit_158 rfl rfl ?_
    refine z_getf C hκ (v := .int (iI (w 27 0))) 162 6 zk_X0 hX.o (by decide) q333 (Or.inl rfl) rfl dX0_isFit_159 rfl ?_
    refine z_iconst C 163 dX0_isFit_162 rfl ?_
    refine z_isub C 164 dX0_isFit_163 rfl ?_
    refine z_i2l C 165 dX0_isFit_164 ⟨by omega, by omega⟩ rfl ?_
    refine z_callS (As := [.long (lI (b)), .long (lI (-1)), .long (lI ((w 27 0) - (1)))]) (rest := []) C hκ hκl 168 (k0_isIn hT (b) (-1) ((w 27 0) - (1)) r_b ⟨by decide, by decide⟩ ⟨by omega, by omega⟩) dX0_isFit_165 q378 q379 q90 q380 znX0_isIn (Nat.le_of_ble_eq_true rfl) (Nat.le_of_ble_eq_true rfl) (Nat.le_of_ble_eq_true rfl) (Nat.le_of_ble_eq_true rfl) rfl (Nat.le_of_ble_eq_true rfl) rfl (fun v9 Q9 h9 => ?_)
    obtain ⟨rfl, rfl⟩ := h9
    refine z_as (st' := [.int (iI (bI (decide ((-1) ≤ (b) ∧ (b) ≤ ((w 27 0) - (1))))))]) rfl rfl rfl ?_
    exact z_iret C dX0_isFit_168 (bI_nar _) (Nat.le_of_ble_eq_true rfl) (Nat.le_of_ble_eq_true rfl) ⟨congrArg (fun b => some (Value.int (iI (bI b)))) (by clear C hκ hκl hS hB hB1 hB2 hB3 hB4 hB5 hB6 hC hw hX hs hT h81 h82; clear e8 e16 e32; unfold ftB; rw [eq_comm]; first | (simp_all; done) | (simp_all <;> omega) | grind), rfl⟩
