/-! ===== set ===== -/
def seG (w : mW) (m x k z : Int) : Int := if shB w m || !mcB w m x then 6 else if agI w m x ≠ 0 then agI w m x else if goG w k z (w 17 m) then 0 else 2
theorem go_sv {w : mW} {k z t : Int} (hk : 0 ≤ k ∧ k ≤ 8) (h : goG w k z t = true) : svE t 1 0 k = 0 := by
  unfold goG at h
  by_cases e : k = 8
  · rw [if_pos e] at h
    simp at h
    unfold svE
    rw [if_neg (by omega), if_neg (by omega), if_neg (by simp [e])]
  · rw [if_neg e] at h
    unfold giB at h
    rw [if_pos (by omega)] at h
    simp at h
    unfold svE
    rw [if_neg (by omega), if_neg (by omega), if_neg (by rw [h.2]; simp)]
theorem go_goB {w : mW} (hs : xS w) {z t : Int} (hz : -1 ≤ z ∧ z < w 27 0) (h8 : 8 ≤ t) (h : goG w 8 z t = true) : goB w z t := by
  unfold goG at h
  rw [if_pos rfl] at h
  simp only [Bool.and_eq_true, Bool.or_eq_true, decide_eq_true_eq] at h
  refine ⟨hz.1, hz.2, fun z0 => ?_⟩
  rcases h.2 with g | g
  · omega
  · have hX := hs.2.1.X z0 hz.2
    rw [← gi_isa hX.1.1 h8]; exact g

set_option maxRecDepth 100000 in
theorem k0_set {l : Launch} {θ : zTh} {σ : xA} {w : mW} {M N : zMap} (hX : xM θ σ w (xL w) M) (hs : xS w) (hw : mWF w) (hT : zTb θ) (hZ : zTx θ l) (m : Int) (x : Int) (c : Nat) (k0 : Int) (b0 : Int) (z : Int)  (hm : 0 ≤ m ∧ m < w 11 0) (hfd : w 16 m = 1) (hx : -1 ≤ x ∧ x < w 27 0) (hF : xFd w) (hk0 : 0 ≤ k0 ∧ k0 ≤ 8) (hz : -1 ≤ z ∧ z < w 27 0) (hlb : inL b0) (hft : k0 < 8 → ftB w k0 b0 = true) (hTh : ∀ x : Int, 0 ≤ x → x < w 27 0 → w 29 x = -1 → w 1 (w 28 x) ≠ 4) (hC9 : M c = some (.inr (6, [.int (iI k0), .long (lI b0), va_rf (xo σ 30 z)]))) : zMX θ l yX0_set (ws_ yX0_set cX0_set 5 none) ⟨248, 6, 240, 10292⟩ [.ref (σ 0 (0)), .ref (σ 20 (m)), va_rf (xo σ 30 (x)), .ref (c)] (zP θ M N) (fun v9 Q9 => v9 = none ∧ seG w m x k0 z = 0 ∧ ∃ e' : va_E, xRow θ σ w (w 17 m) 1 (svU (fun _ => fvL w m x) 0 (svZ k0 b0 z (w 17 m))) e' ∧ Q9 = zP θ (zup M (rwA σ w m x) e') N) (fun E9 b9 Q9 => ∃ (M1 : zMap) (c9 : Int), Q9 = zP θ M1 N ∧ zGe M M1 ∧ seG w m x k0 z = c9 ∧ c9 ≠ 0 ∧ xEx M1 b9 E9 c9) := by
  refine zx_start (own := RX0) (nm := "set") pnX0 rfl rfl (by cases (xo σ 30 (x)) <;> exact Nat.le_of_ble_eq_true rfl) ?_
  intro κ hκ hκl C XX
  refine z_as (lv' := [(0, .ref (σ 0 (0))), (1, .ref (σ 20 (m))), (2, va_rf (xo σ 30 (x))), (3, .ref (c))]) rfl (by cases (xo σ 30 (x)) <;> rfl) rfl ?_
  change Z κ (zP θ M N) 0 0 0 [(0, .ref (σ 0 (0))), (1, .ref (σ 20 (m))), (2, va_rf (xo σ 30 (x))), (3, .ref (c))] []
  have hS := hs.S
  have hB := hS.B
  obtain ⟨hB1, hB2, hB3, hB4, hB5, hB6⟩ := hS.B
  have hC := hS.C
  obtain ⟨h81, h82⟩ := hs.r8
  have ge0 : zGe M M := zGe.rf
  refine z_aload_n C 1 0 dX0_set_0 rfl rfl ?_
  refine z_aload_n C 2 0 dX0_set_1 rfl rfl ?_
  refine z_aload_n C 3 1 dX0_set_2 rfl rfl ?_
  refine z_aload_nq C 4 2 dX0_set_3 rfl rfl ?_
  refine z_callV (As := [.ref (σ 20 (m)), va_rf (xo σ 30 (x))]) (rest := [.ref (σ 0 (0))]) C hκ hκl 7 (k0_mayBe hX hs hw hT (m) (x) hm hx) dX0_set_4 q1249 q1251 qs13 q90 q1252 znX0_mayBe (Nat.le_of_ble_eq_true rfl) (Nat.le_of_ble_eq_true rfl) (Nat.le_of_ble_eq_true rfl) (Nat.le_of_ble_eq_true rfl) (zrec_P hX.o) rfl rfl (Nat.le_of_ble_eq_true rfl) rfl (fun v9 Q9 h9 => ?_)
  obtain ⟨rfl, rfl⟩ := h9
  refine z_as (st' := [.int (iI (bI (mcB w (m) (x)))), .ref (σ 0 (0))]) rfl rfl rfl ?_
  refine z_ifB_eq C 38 10 dX0_set_7 (by decide) rfl (fun c1 => ?_) (fun c1 => ?_)
  · skip
    refine z_iconst C 39 dX0_set_38 rfl ?_
    refine z_bipush C 41 dX0_set_39 (by decide) rfl ?_
    refine zx_callV (As := [.int (iI (0)), .int (iI (6))]) (rest := []) C hκ hκl 44 (k0_need hT hZ (σ 0 (0)) (false) (6) ⟨by decide, by decide⟩) dX0_set_41 q1491 q1493 qs20 q90 q1494 znX0_need (Nat.le_of_ble_eq_true rfl) (Nat.le_of_ble_eq_true rfl) (Nat.le_of_ble_eq_true rfl) (Nat.le_of_ble_eq_true rfl) (zrec_P hX.o) rfl rfl (Nat.le_of_ble_eq_true rfl) rfl (fun v9 Q9 h9 => ?_) (fun E9 b9 Q9 h9 => ?_)
    rotate_left 1
    · skip
      obtain ⟨hnr2, Mr2, rfl, gr2, er2⟩ := h9
      have o3 : Mr2 c = some (.inr (6, [.int (iI (k0)), .long (lI (b0)), va_rf (xo σ 30 (z))])) := gr2 _ _ hC9
      have hX4 : xM θ σ w (xL w) Mr2 := hX.ge gr2
      have ge5 : zGe M Mr2 := ge0.tr gr2
      refine zx_out C hκ hT XX (fun z9 h9 => by cases h9) ⟨Mr2, 6, rfl, ge5, (by clear C hκ hκl hS hB hB1 hB2 hB3 hB4 hB5 hB6 hC hw hX hs hT h81 h82; unfold seG; rw [if_pos (by unfold shB; simp_all)]), by decide, Or.inl er2⟩ (Nat.le_of_ble_eq_true rfl) (Nat.le_of_ble_eq_true rfl)
    obtain ⟨rfl, hnr6, rfl⟩ := h9
    refine z_as (st' := []) rfl rfl rfl ?_
    refine z_widen (n' := 1) (k' := 7) (Nat.le_refl _) (Nat.le_refl _) ?_
    have hn441 := hnr6
    have hse9 : ¬ ((shB w m || !mcB w m x) = true) := by clear C hκ hκl XX; unfold shB; simp_all
    refine z_aload_n C 45 0 dX0_set_44 rfl rfl ?_
    refine z_aload_n C 46 1 dX0_set_45 rfl rfl ?_
    refine z_aload_nq C 47 2 dX0_set_46 rfl rfl ?_
    refine zx_callV (As := [.ref (σ 20 (m)), va_rf (xo σ 30 (x))]) (rest := []) C hκ hκl 50 (k0_rowOf hX hs hw hT hZ (m) (x) hm hfd hx hF) dX0_set_47 q1518 q1520 qs21 q90 q1521 znX0_rowOf (Nat.le_of_ble_eq_true rfl) (Nat.le_of_ble_eq_true rfl) (Nat.le_of_ble_eq_true rfl) (Nat.le_of_ble_eq_true rfl) (zrec_P hX.o) rfl rfl (Nat.le_of_ble_eq_true rfl) rfl (fun v9 Q9 h9 => ?_) (fun E9 b9 Q9 h9 => ?_)
    rotate_left 1
    · skip
      obtain ⟨cr7, hnr7, hcr7, er7, rfl⟩ := h9
      refine zx_out C hκ hT XX (fun z9 h9 => by cases h9) ⟨M, cr7, rfl, ge0, (by unfold seG; rw [if_neg hse9, if_pos (by rw [hnr7]; exact hcr7)]; exact hnr7), hcr7, Or.inr er7⟩ (Nat.le_of_ble_eq_true rfl) (Nat.le_of_ble_eq_true rfl)
    obtain ⟨rfl, hnr8, rfl⟩ := h9
    refine z_as (st' := [.ref (rwA σ w (m) (x))]) rfl rfl rfl ?_
    refine z_widen (n' := 2) (k' := 15) (Nat.le_refl _) (Nat.le_refl _) ?_
    have hag9 := hnr8
    obtain ⟨e9, he9, hr9⟩ := xM.fld hX hs hF hm hfd hx hnr8
    have h179 := (hF m (by omega) (by omega) hfd).1
    have hmm9 := (hS.M (m := m) (by omega) (by omega)).2.2.1
    refine z_astore (lv' := [(0, .ref (σ 0 (0))), (1, .ref (σ 20 (m))), (2, va_rf (xo σ 30 (x))), (3, .ref (c)), (4, .ref (rwA σ w (m) (x)))]) C 52 [1, 2, 3, 4, 0] dX0_set_50 (by decide) rfl rfl ?_
    refine z_aload_n C 53 0 dX0_set_52 rfl rfl ?_
    refine z_aload_n C 54 0 dX0_set_53 rfl rfl ?_
    refine z_aload_n C 55 3 dX0_set_54 rfl rfl ?_
    refine z_aload_n C 56 1 dX0_set_55 rfl rfl ?_
    obtain ⟨f9a, f9b, f9c, f9d⟩ := hS.M (show 0 ≤ m by omega) (by omega)
    refine z_getf C hκ (v := va_rf (xo σ 10 (w 17 (m)))) 59 5 zk_X9 (hX.mem (by omega) (by omega)) (by decide) q672 (Or.inl rfl) rfl dX0_set_56 rfl ?_
    have y10 : 0 ≤ w 17 (m) := (by omega)
    rw [xo_y y10]
    refine z_as (st' := [.ref (σ 10 (w 17 (m))), .ref (c), .ref (σ 0 (0)), .ref (σ 0 (0))]) (lv' := [(0, .ref (σ 0 (0))), (1, .ref (σ 20 (m))), (2, va_rf (xo σ 30 (x))), (3, .ref (c)), (4, .ref (rwA σ w (m) (x)))]) rfl rfl rfl ?_
    refine z_callV (As := [.ref (c), .ref (σ 10 (w 17 (m)))]) (rest := [.ref (σ 0 (0))]) C hκ hκl 62 (k0_goesInto hX hs hw hT (c) (k0) (b0) (z) (w 17 (m)) hk0 hz ⟨h179, hmm9.2⟩ hC9) dX0_set_59 q1582 q1584 qs23 q90 q1585 znX0_goesInto (Nat.le_of_ble_eq_true rfl) (Nat.le_of_ble_eq_true rfl) (Nat.le_of_ble_eq_true rfl) (Nat.le_of_ble_eq_true rfl) (zrec_P hX.o) rfl rfl (Nat.le_of_ble_eq_true rfl) rfl (fun v9 Q9 h9 => ?_)
    obtain ⟨rfl, rfl⟩ := h9
    refine z_as (st' := [.int (iI (bI (goG w (k0) (z) (w 17 (m))))), .ref (σ 0 (0))]) rfl rfl rfl ?_
    refine z_iconst C 63 dX0_set_62 rfl ?_
    refine zx_callV (As := [.int (iI (bI (goG w (k0) (z) (w 17 (m))))), .int (iI (2))]) (rest := []) C hκ hκl 66 (k0_need hT hZ (σ 0 (0)) (goG w (k0) (z) (w 17 (m))) (2) ⟨by decide, by decide⟩) dX0_set_63 q1491 q1493 qs20 q90 q1494 znX0_need (Nat.le_of_ble_eq_true rfl) (Nat.le_of_ble_eq_true rfl) (Nat.le_of_ble_eq_true rfl) (Nat.le_of_ble_eq_true rfl) (zrec_P hX.o) rfl rfl (Nat.le_of_ble_eq_true rfl) rfl (fun v9 Q9 h9 => ?_) (fun E9 b9 Q9 h9 => ?_)
    rotate_left 1
    · skip
      obtain ⟨hnr11, Mr11, rfl, gr11, er11⟩ := h9
      have o12 : Mr11 c = some (.inr (6, [.int (iI (k0)), .long (lI (b0)), va_rf (xo σ 30 (z))])) := gr11 _ _ hC9
      have hX13 : xM θ σ w (xL w) Mr11 := hX.ge gr11
      have ge14 : zGe M Mr11 := ge0.tr gr11
      refine zx_out C hκ hT XX (fun z9 h9 => by cases h9) ⟨Mr11, 2, rfl, ge14, (by unfold seG; rw [if_neg hse9, if_neg (by rw [hag9]; decide), if_neg hnr11]), by decide, Or.inl er11⟩ (Nat.le_of_ble_eq_true rfl) (Nat.le_of_ble_eq_true rfl)
    obtain ⟨rfl, hnr15, rfl⟩ := h9
    refine z_as (st' := []) rfl rfl rfl ?_
    refine z_widen (n' := 3) (k' := 22) (Nat.le_refl _) (Nat.le_refl _) ?_
    have hgo9 : goG w k0 z (w 17 m) = true := hnr15
    refine z_aload C 68 4 dX0_set_66 rfl rfl ?_
    refine z_iconst C 69 dX0_set_68 rfl ?_
    refine z_aload_n C 70 3 dX0_set_69 rfl rfl ?_
    refine zx_callS (As := [.ref (rwA σ w (m) (x)), .int (iI (0)), .ref (c)]) (rest := []) C hκ hκl 73 (k0_save hX hs hw hT hZ (rwA σ w (m) (x)) (w 17 m) (1) ((fun _ => fvL w m x)) (e9) (0) (z) (c) (k0) (b0) (xo σ 30 (z)) ⟨by decide, by decide⟩ he9 hr9 (by decide) hmm9.2 hk0 hlb hft (fun e8 t8 => ⟨rfl, go_goB hs hz t8 (by rw [← e8]; exact hgo9)⟩) hTh hC9) dX0_set_70 q1586 q1587 q90 q1588 znX0_save (Nat.le_of_ble_eq_true rfl) (Nat.le_of_ble_eq_true rfl) (Nat.le_of_ble_eq_true rfl) (Nat.le_of_ble_eq_true rfl) rfl (Nat.le_of_ble_eq_true rfl) rfl (fun v9 Q9 h9 => ?_) (fun E9 b9 Q9 h9 => ?_)
    rotate_left 1
    · skip
      obtain ⟨cr16, hnr16, hcr16, er16, rfl⟩ := h9
      refine zx_out C hκ hT XX (fun z9 h9 => by cases h9) (False.elim (hcr16 (hnr16.symm.trans (go_sv hk0 hgo9)))) (Nat.le_of_ble_eq_true rfl) (Nat.le_of_ble_eq_true rfl)
    obtain ⟨rfl, hnr17, er17, hrr17, rfl⟩ := h9
    refine z_as (st' := []) rfl rfl rfl ?_
    refine z_widen (n' := 6) (k' := 232) (Nat.le_refl _) (Nat.le_refl _) ?_
    exact z_vret C dX0_set_73 (Nat.le_of_ble_eq_true rfl) (Nat.le_of_ble_eq_true rfl) ⟨rfl, (by unfold seG; rw [if_neg hse9, if_neg (by rw [hag9]; decide), if_pos hgo9]), er17, hrr17, rfl⟩
  · skip
    refine z_aload_n C 11 1 dX0_set_10 rfl rfl ?_
    refine z_bipush C 13 dX0_set_11 (by decide) rfl ?_
    refine z_callV (As := [.int (iI (8))]) (rest := [.ref (σ 0 (0))]) C hκ hκl 16 (k9_has hX hs hw hT (m) (8) ⟨by decide, by decide⟩ ⟨by omega, by omega⟩) dX0_set_13 q711 q712 q713 q103 q714 znX9_has (Nat.le_of_ble_eq_true rfl) (Nat.le_of_ble_eq_true rfl) (Nat.le_of_ble_eq_true rfl) (Nat.le_of_ble_eq_true rfl) (zrec_P (hX.mem (by omega) (by omega))) rfl rfl (Nat.le_of_ble_eq_true rfl) rfl (fun v9 Q9 h9 => ?_)
    obtain ⟨rfl, rfl⟩ := h9
    refine z_as (st' := [.int (iI (bI (hasB w (m) (8)))), .ref (σ 0 (0))]) rfl rfl rfl ?_
    refine z_ifB_eq C 34 19 dX0_set_16 (by decide) rfl (fun c18 => ?_) (fun c18 => ?_)
    · skip
      refine z_iconst C 35 dX0_set_34 rfl ?_
      refine z_goto C 39 dX0_set_35 (by decide) ?_
      refine z_bipush C 41 dX0_set_39 (by decide) rfl ?_
      refine zx_callV (As := [.int (iI (1)), .int (iI (6))]) (rest := []) C hκ hκl 44 (k0_need hT hZ (σ 0 (0)) (true) (6) ⟨by decide, by decide⟩) dX0_set_41 q1491 q1493 qs20 q90 q1494 znX0_need (Nat.le_of_ble_eq_true rfl) (Nat.le_of_ble_eq_true rfl) (Nat.le_of_ble_eq_true rfl) (Nat.le_of_ble_eq_true rfl) (zrec_P hX.o) rfl rfl (Nat.le_of_ble_eq_true rfl) rfl (fun v9 Q9 h9 => ?_) (fun E9 b9 Q9 h9 => ?_)
      rotate_left 1
      · skip
        obtain ⟨hnr19, Mr19, rfl, gr19, er19⟩ := h9
        have o20 : Mr19 c = some (.inr (6, [.int (iI (k0)), .long (lI (b0)), va_rf (xo σ 30 (z))])) := gr19 _ _ hC9
        have hX21 : xM θ σ w (xL w) Mr19 := hX.ge gr19
        have ge22 : zGe M Mr19 := ge0.tr gr19
        refine zx_out C hκ hT XX (fun z9 h9 => by cases h9) ⟨Mr19, 6, rfl, ge22, (by clear C hκ hκl hS hB hB1 hB2 hB3 hB4 hB5 hB6 hC hw hX hs hT h81 h82; unfold seG; rw [if_pos (by unfold shB; simp_all)]), by decide, Or.inl er19⟩ (Nat.le_of_ble_eq_true rfl) (Nat.le_of_ble_eq_true rfl)
      obtain ⟨rfl, hnr23, rfl⟩ := h9
      refine z_as (st' := []) rfl rfl rfl ?_
      refine z_widen (n' := 1) (k' := 7) (Nat.le_refl _) (Nat.le_refl _) ?_
      have hn441 := hnr23
      have hse9 : ¬ ((shB w m || !mcB w m x) = true) := by clear C hκ hκl XX; unfold shB; simp_all
      refine z_aload_n C 45 0 dX0_set_44 rfl rfl ?_
      refine z_aload_n C 46 1 dX0_set_45 rfl rfl ?_
      refine z_aload_nq C 47 2 dX0_set_46 rfl rfl ?_
      refine zx_callV (As := [.ref (σ 20 (m)), va_rf (xo σ 30 (x))]) (rest := []) C hκ hκl 50 (k0_rowOf hX hs hw hT hZ (m) (x) hm hfd hx hF) dX0_set_47 q1518 q1520 qs21 q90 q1521 znX0_rowOf (Nat.le_of_ble_eq_true rfl) (Nat.le_of_ble_eq_true rfl) (Nat.le_of_ble_eq_true rfl) (Nat.le_of_ble_eq_true rfl) (zrec_P hX.o) rfl rfl (Nat.le_of_ble_eq_true rfl) rfl (fun v9 Q9 h9 => ?_) (fun E9 b9 Q9 h9 => ?_)
      rotate_left 1
      · skip
        obtain ⟨cr24, hnr24, hcr24, er24, rfl⟩ := h9
        refine zx_out C hκ hT XX (fun z9 h9 => by cases h9) ⟨M, cr24, rfl, ge0, (by unfold seG; rw [if_neg hse9, if_pos (by rw [hnr24]; exact hcr24)]; exact hnr24), hcr24, Or.inr er24⟩ (Nat.le_of_ble_eq_true rfl) (Nat.le_of_ble_eq_true rfl)
      obtain ⟨rfl, hnr25, rfl⟩ := h9
      refine z_as (st' := [.ref (rwA σ w (m) (x))]) rfl rfl rfl ?_
      refine z_widen (n' := 2) (k' := 15) (Nat.le_refl _) (Nat.le_refl _) ?_
      have hag9 := hnr25
      obtain ⟨e9, he9, hr9⟩ := xM.fld hX hs hF hm hfd hx hnr25
      have h179 := (hF m (by omega) (by omega) hfd).1
      have hmm9 := (hS.M (m := m) (by omega) (by omega)).2.2.1
      refine z_astore (lv' := [(0, .ref (σ 0 (0))), (1, .ref (σ 20 (m))), (2, va_rf (xo σ 30 (x))), (3, .ref (c)), (4, .ref (rwA σ w (m) (x)))]) C 52 [1, 2, 3, 4, 0] dX0_set_50 (by decide) rfl rfl ?_
      refine z_aload_n C 53 0 dX0_set_52 rfl rfl ?_
      refine z_aload_n C 54 0 dX0_set_53 rfl rfl ?_
      refine z_aload_n C 55 3 dX0_set_54 rfl rfl ?_
      refine z_aload_n C 56 1 dX0_set_55 rfl rfl ?_
      obtain ⟨f26a, f26b, f26c, f26d⟩ := hS.M (show 0 ≤ m by omega) (by omega)
      refine z_getf C hκ (v := va_rf (xo σ 10 (w 17 (m)))) 59 5 zk_X9 (hX.mem (by omega) (by omega)) (by decide) q672 (Or.inl rfl) rfl dX0_set_56 rfl ?_
      have y27 : 0 ≤ w 17 (m) := (by omega)
      rw [xo_y y27]
      refine z_as (st' := [.ref (σ 10 (w 17 (m))), .ref (c), .ref (σ 0 (0)), .ref (σ 0 (0))]) (lv' := [(0, .ref (σ 0 (0))), (1, .ref (σ 20 (m))), (2, va_rf (xo σ 30 (x))), (3, .ref (c)), (4, .ref (rwA σ w (m) (x)))]) rfl rfl rfl ?_
      refine z_callV (As := [.ref (c), .ref (σ 10 (w 17 (m)))]) (rest := [.ref (σ 0 (0))]) C hκ hκl 62 (k0_goesInto hX hs hw hT (c) (k0) (b0) (z) (w 17 (m)) hk0 hz ⟨h179, hmm9.2⟩ hC9) dX0_set_59 q1582 q1584 qs23 q90 q1585 znX0_goesInto (Nat.le_of_ble_eq_true rfl) (Nat.le_of_ble_eq_true rfl) (Nat.le_of_ble_eq_true rfl) (Nat.le_of_ble_eq_true rfl) (zrec_P hX.o) rfl rfl (Nat.le_of_ble_eq_true rfl) rfl (fun v9 Q9 h9 => ?_)
      obtain ⟨rfl, rfl⟩ := h9
      refine z_as (st' := [.int (iI (bI (goG w (k0) (z) (w 17 (m))))), .ref (σ 0 (0))]) rfl rfl rfl ?_
      refine z_iconst C 63 dX0_set_62 rfl ?_
      refine zx_callV (As := [.int (iI (bI (goG w (k0) (z) (w 17 (m))))), .int (iI (2))]) (rest := []) C hκ hκl 66 (k0_need hT hZ (σ 0 (0)) (goG w (k0) (z) (w 17 (m))) (2) ⟨by decide, by decide⟩) dX0_set_63 q1491 q1493 qs20 q90 q1494 znX0_need (Nat.le_of_ble_eq_true rfl) (Nat.le_of_ble_eq_true rfl) (Nat.le_of_ble_eq_true rfl) (Nat.le_of_ble_eq_true rfl) (zrec_P hX.o) rfl rfl (Nat.le_of_ble_eq_true rfl) rfl (fun v9 Q9 h9 => ?_) (fun E9 b9 Q9 h9 => ?_)
      rotate_left 1
      · skip
        obtain ⟨hnr28, Mr28, rfl, gr28, er28⟩ := h9
        have o29 : Mr28 c = some (.inr (6, [.int (iI (k0)), .long (lI (b0)), va_rf (xo σ 30 (z))])) := gr28 _ _ hC9
        have hX30 : xM θ σ w (xL w) Mr28 := hX.ge gr28
        have ge31 : zGe M Mr28 := ge0.tr gr28
        refine zx_out C hκ hT XX (fun z9 h9 => by cases h9) ⟨Mr28, 2, rfl, ge31, (by unfold seG; rw [if_neg hse9, if_neg (by rw [hag9]; decide), if_neg hnr28]), by decide, Or.inl er28⟩ (Nat.le_of_ble_eq_true rfl) (Nat.le_of_ble_eq_true rfl)
      obtain ⟨rfl, hnr32, rfl⟩ := h9
      refine z_as (st' := []) rfl rfl rfl ?_
      refine z_widen (n' := 3) (k' := 22) (Nat.le_refl _) (Nat.le_refl _) ?_
      have hgo9 : goG w k0 z (w 17 m) = true := hnr32
      refine z_aload C 68 4 dX0_set_66 rfl rfl ?_
      refine z_iconst C 69 dX0_set_68 rfl ?_
      refine z_aload_n C 70 3 dX0_set_69 rfl rfl ?_
      refine zx_callS (As := [.ref (rwA σ w (m) (x)), .int (iI (0)), .ref (c)]) (rest := []) C hκ hκl 73 (k0_save hX hs hw hT hZ (rwA σ w (m) (x)) (w 17 m) (1) ((fun _ => fvL w m x)) (e9) (0) (z) (c) (k0) (b0) (xo σ 30 (z)) ⟨by decide, by decide⟩ he9 hr9 (by decide) hmm9.2 hk0 hlb hft (fun e8 t8 => ⟨rfl, go_goB hs hz t8 (by rw [← e8]; exact hgo9)⟩) hTh hC9) dX0_set_70 q1586 q1587 q90 q1588 znX0_save (Nat.le_of_ble_eq_true rfl) (Nat.le_of_ble_eq_true rfl) (Nat.le_of_ble_eq_true rfl) (Nat.le_of_ble_eq_true rfl) rfl (Nat.le_of_ble_eq_true rfl) rfl (fun v9 Q9 h9 => ?_) (fun E9 b9 Q9 h9 => ?_)
      rotate_left 1
      · skip
        obtain ⟨cr33, hnr33, hcr33, er33, rfl⟩ := h9
        refine zx_out C hκ hT XX (fun z9 h9 => by cases h9) (False.elim (hcr33 (hnr33.symm.trans (go_sv hk0 hgo9)))) (Nat.le_of_ble_eq_true rfl) (Nat.le_of_ble_eq_true rfl)
      obtain ⟨rfl, hnr34, er34, hrr34, rfl⟩ := h9
      refine z_as (st' := []) rfl rfl rfl ?_
      refine z_widen (n' := 6) (k' := 232) (Nat.le_refl _) (Nat.le_refl _) ?_
      exact z_vret C dX0_set_73 (Nat.le_of_ble_eq_true rfl) (Nat.le_of_ble_eq_true rfl) ⟨rfl, (by unfold seG; rw [if_neg hse9, if_neg (by rw [hag9]; decide), if_pos hgo9]), er34, hrr34, rfl⟩
    · skip
      refine z_aload_n C 20 1 dX0_set_19 rfl rfl ?_
      obtain ⟨f35a, f35b, f35c, f35d⟩ := hS.M (show 0 ≤ m by omega) (by omega)
      refine z_getf C hκ (v := .int (iI (bI (mb w 20 (m))))) 23 8 zk_X9 (hX.mem (by omega) (by omega)) (by decide) q681 (Or.inl rfl) rfl dX0_set_20 rfl ?_
      refine z_ifB_eq C 38 26 dX0_set_23 (by decide) rfl (fun c36 => ?_) (fun c36 => ?_)
      · skip
        have c36b : ¬ (w 20 (m) = 1) := of_decide_eq_false c36
        refine z_iconst C 39 dX0_set_38 rfl ?_
        refine z_bipush C 41 dX0_set_39 (by decide) rfl ?_
        refine zx_callV (As := [.int (iI (0)), .int (iI (6))]) (rest := []) C hκ hκl 44 (k0_need hT hZ (σ 0 (0)) (false) (6) ⟨by decide, by decide⟩) dX0_set_41 q1491 q1493 qs20 q90 q1494 znX0_need (Nat.le_of_ble_eq_true rfl) (Nat.le_of_ble_eq_true rfl) (Nat.le_of_ble_eq_true rfl) (Nat.le_of_ble_eq_true rfl) (zrec_P hX.o) rfl rfl (Nat.le_of_ble_eq_true rfl) rfl (fun v9 Q9 h9 => ?_) (fun E9 b9 Q9 h9 => ?_)
        rotate_left 1
        · skip
          obtain ⟨hnr37, Mr37, rfl, gr37, er37⟩ := h9
          have o38 : Mr37 c = some (.inr (6, [.int (iI (k0)), .long (lI (b0)), va_rf (xo σ 30 (z))])) := gr37 _ _ hC9
          have hX39 : xM θ σ w (xL w) Mr37 := hX.ge gr37
          have ge40 : zGe M Mr37 := ge0.tr gr37
          refine zx_out C hκ hT XX (fun z9 h9 => by cases h9) ⟨Mr37, 6, rfl, ge40, (by clear C hκ hκl hS hB hB1 hB2 hB3 hB4 hB5 hB6 hC hw hX hs hT h81 h82 f35a f35b f35c f35d; unfold seG; rw [if_pos (by unfold shB; simp_all)]), by decide, Or.inl er37⟩ (Nat.le_of_ble_eq_true rfl) (Nat.le_of_ble_eq_true rfl)
        obtain ⟨rfl, hnr41, rfl⟩ := h9
        refine z_as (st' := []) rfl rfl rfl ?_
        refine z_widen (n' := 1) (k' := 7) (Nat.le_refl _) (Nat.le_refl _) ?_
        have hn441 := hnr41
        have hse9 : ¬ ((shB w m || !mcB w m x) = true) := by clear C hκ hκl XX; unfold shB; simp_all
        refine z_aload_n C 45 0 dX0_set_44 rfl rfl ?_
        refine z_aload_n C 46 1 dX0_set_45 rfl rfl ?_
        refine z_aload_nq C 47 2 dX0_set_46 rfl rfl ?_
        refine zx_callV (As := [.ref (σ 20 (m)), va_rf (xo σ 30 (x))]) (rest := []) C hκ hκl 50 (k0_rowOf hX hs hw hT hZ (m) (x) hm hfd hx hF) dX0_set_47 q1518 q1520 qs21 q90 q1521 znX0_rowOf (Nat.le_of_ble_eq_true rfl) (Nat.le_of_ble_eq_true rfl) (Nat.le_of_ble_eq_true rfl) (Nat.le_of_ble_eq_true rfl) (zrec_P hX.o) rfl rfl (Nat.le_of_ble_eq_true rfl) rfl (fun v9 Q9 h9 => ?_) (fun E9 b9 Q9 h9 => ?_)
        rotate_left 1
        · skip
          obtain ⟨cr42, hnr42, hcr42, er42, rfl⟩ := h9
          refine zx_out C hκ hT XX (fun z9 h9 => by cases h9) ⟨M, cr42, rfl, ge0, (by unfold seG; rw [if_neg hse9, if_pos (by rw [hnr42]; exact hcr42)]; exact hnr42), hcr42, Or.inr er42⟩ (Nat.le_of_ble_eq_true rfl) (Nat.le_of_ble_eq_true rfl)
        obtain ⟨rfl, hnr43, rfl⟩ := h9
        refine z_as (st' := [.ref (rwA σ w (m) (x))]) rfl rfl rfl ?_
        refine z_widen (n' := 2) (k' := 15) (Nat.le_refl _) (Nat.le_refl _) ?_
        have hag9 := hnr43
        obtain ⟨e9, he9, hr9⟩ := xM.fld hX hs hF hm hfd hx hnr43
        have h179 := (hF m (by omega) (by omega) hfd).1
        have hmm9 := (hS.M (m := m) (by omega) (by omega)).2.2.1
        refine z_astore (lv' := [(0, .ref (σ 0 (0))), (1, .ref (σ 20 (m))), (2, va_rf (xo σ 30 (x))), (3, .ref (c)), (4, .ref (rwA σ w (m) (x)))]) C 52 [1, 2, 3, 4, 0] dX0_set_50 (by decide) rfl rfl ?_
        refine z_aload_n C 53 0 dX0_set_52 rfl rfl ?_
        refine z_aload_n C 54 0 dX0_set_53 rfl rfl ?_
        refine z_aload_n C 55 3 dX0_set_54 rfl rfl ?_
        refine z_aload_n C 56 1 dX0_set_55 rfl rfl ?_
        refine z_getf C hκ (v := va_rf (xo σ 10 (w 17 (m)))) 59 5 zk_X9 (hX.mem (by omega) (by omega)) (by decide) q672 (Or.inl rfl) rfl dX0_set_56 rfl ?_
        have y44 : 0 ≤ w 17 (m) := (by omega)
        rw [xo_y y44]
        refine z_as (st' := [.ref (σ 10 (w 17 (m))), .ref (c), .ref (σ 0 (0)), .ref (σ 0 (0))]) (lv' := [(0, .ref (σ 0 (0))), (1, .ref (σ 20 (m))), (2, va_rf (xo σ 30 (x))), (3, .ref (c)), (4, .ref (rwA σ w (m) (x)))]) rfl rfl rfl ?_
        refine z_callV (As := [.ref (c), .ref (σ 10 (w 17 (m)))]) (rest := [.ref (σ 0 (0))]) C hκ hκl 62 (k0_goesInto hX hs hw hT (c) (k0) (b0) (z) (w 17 (m)) hk0 hz ⟨h179, hmm9.2⟩ hC9) dX0_set_59 q1582 q1584 qs23 q90 q1585 znX0_goesInto (Nat.le_of_ble_eq_true rfl) (Nat.le_of_ble_eq_true rfl) (Nat.le_of_ble_eq_true rfl) (Nat.le_of_ble_eq_true rfl) (zrec_P hX.o) rfl rfl (Nat.le_of_ble_eq_true rfl) rfl (fun v9 Q9 h9 => ?_)
        obtain ⟨rfl, rfl⟩ := h9
        refine z_as (st' := [.int (iI (bI (goG w (k0) (z) (w 17 (m))))), .ref (σ 0 (0))]) rfl rfl rfl ?_
        refine z_iconst C 63 dX0_set_62 rfl ?_
        refine zx_callV (As := [.int (iI (bI (goG w (k0) (z) (w 17 (m))))), .int (iI (2))]) (rest := []) C hκ hκl 66 (k0_need hT hZ (σ 0 (0)) (goG w (k0) (z) (w 17 (m))) (2) ⟨by decide, by decide⟩) dX0_set_63 q1491 q1493 qs20 q90 q1494 znX0_need (Nat.le_of_ble_eq_true rfl) (Nat.le_of_ble_eq_true rfl) (Nat.le_of_ble_eq_true rfl) (Nat.le_of_ble_eq_true rfl) (zrec_P hX.o) rfl rfl (Nat.le_of_ble_eq_true rfl) rfl (fun v9 Q9 h9 => ?_) (fun E9 b9 Q9 h9 => ?_)
        rotate_left 1
        · skip
          obtain ⟨hnr45, Mr45, rfl, gr45, er45⟩ := h9
          have o46 : Mr45 c = some (.inr (6, [.int (iI (k0)), .long (lI (b0)), va_rf (xo σ 30 (z))])) := gr45 _ _ hC9
          have hX47 : xM θ σ w (xL w) Mr45 := hX.ge gr45
          have ge48 : zGe M Mr45 := ge0.tr gr45
          refine zx_out C hκ hT XX (fun z9 h9 => by cases h9) ⟨Mr45, 2, rfl, ge48, (by unfold seG; rw [if_neg hse9, if_neg (by rw [hag9]; decide), if_neg hnr45]), by decide, Or.inl er45⟩ (Nat.le_of_ble_eq_true rfl) (Nat.le_of_ble_eq_true rfl)
        obtain ⟨rfl, hnr49, rfl⟩ := h9
        refine z_as (st' := []) rfl rfl rfl ?_
        refine z_widen (n' := 3) (k' := 22) (Nat.le_refl _) (Nat.le_refl _) ?_
        have hgo9 : goG w k0 z (w 17 m) = true := hnr49
        refine z_aload C 68 4 dX0_set_66 rfl rfl ?_
        refine z_iconst C 69 dX0_set_68 rfl ?_
        refine z_aload_n C 70 3 dX0_set_69 rfl rfl ?_
        refine zx_callS (As := [.ref (rwA σ w (m) (x)), .int (iI (0)), .ref (c)]) (rest := []) C hκ hκl 73 (k0_save hX hs hw hT hZ (rwA σ w (m) (x)) (w 17 m) (1) ((fun _ => fvL w m x)) (e9) (0) (z) (c) (k0) (b0) (xo σ 30 (z)) ⟨by decide, by decide⟩ he9 hr9 (by decide) hmm9.2 hk0 hlb hft (fun e8 t8 => ⟨rfl, go_goB hs hz t8 (by rw [← e8]; exact hgo9)⟩) hTh hC9) dX0_set_70 q1586 q1587 q90 q1588 znX0_save (Nat.le_of_ble_eq_true rfl) (Nat.le_of_ble_eq_true rfl) (Nat.le_of_ble_eq_true rfl) (Nat.le_of_ble_eq_true rfl) rfl (Nat.le_of_ble_eq_true rfl) rfl (fun v9 Q9 h9 => ?_) (fun E9 b9 Q9 h9 => ?_)
        rotate_left 1
        · skip
          obtain ⟨cr50, hnr50, hcr50, er50, rfl⟩ := h9
          refine zx_out C hκ hT XX (fun z9 h9 => by cases h9) (False.elim (hcr50 (hnr50.symm.trans (go_sv hk0 hgo9)))) (Nat.le_of_ble_eq_true rfl) (Nat.le_of_ble_eq_true rfl)
        obtain ⟨rfl, hnr51, er51, hrr51, rfl⟩ := h9
        refine z_as (st' := []) rfl rfl rfl ?_
        refine z_widen (n' := 6) (k' := 232) (Nat.le_refl _) (Nat.le_refl _) ?_
        exact z_vret C dX0_set_73 (Nat.le_of_ble_eq_true rfl) (Nat.le_of_ble_eq_true rfl) ⟨rfl, (by unfold seG; rw [if_neg hse9, if_neg (by rw [hag9]; decide), if_pos hgo9]), er51, hrr51, rfl⟩
      · skip
        have c36b : (w 20 (m) = 1) := of_decide_eq_true c36
        refine z_aload_n C 27 1 dX0_set_26 rfl rfl ?_
        refine z_iconst C 28 dX0_set_27 rfl ?_
        refine z_callV (As := [.int (iI (4))]) (rest := [.ref (σ 0 (0))]) C hκ hκl 31 (k9_has hX hs hw hT (m) (4) ⟨by decide, by decide⟩ ⟨by omega, by omega⟩) dX0_set_28 q711 q712 q713 q103 q714 znX9_has (Nat.le_of_ble_eq_true rfl) (Nat.le_of_ble_eq_true rfl) (Nat.le_of_ble_eq_true rfl) (Nat.le_of_ble_eq_true rfl) (zrec_P (hX.mem (by omega) (by omega))) rfl rfl (Nat.le_of_ble_eq_true rfl) rfl (fun v9 Q9 h9 => ?_)
        obtain ⟨rfl, rfl⟩ := h9
        refine z_as (st' := [.int (iI (bI (hasB w (m) (4)))), .ref (σ 0 (0))]) rfl rfl rfl ?_
        refine z_ifB_ne C 38 34 dX0_set_31 (by decide) rfl (fun c52 => ?_) (fun c52 => ?_)
        · skip
          refine z_iconst C 39 dX0_set_38 rfl ?_
          refine z_bipush C 41 dX0_set_39 (by decide) rfl ?_
          refine zx_callV (As := [.int (iI (0)), .int (iI (6))]) (rest := []) C hκ hκl 44 (k0_need hT hZ (σ 0 (0)) (false) (6) ⟨by decide, by decide⟩) dX0_set_41 q1491 q1493 qs20 q90 q1494 znX0_need (Nat.le_of_ble_eq_true rfl) (Nat.le_of_ble_eq_true rfl) (Nat.le_of_ble_eq_true rfl) (Nat.le_of_ble_eq_true rfl) (zrec_P hX.o) rfl rfl (Nat.le_of_ble_eq_true rfl) rfl (fun v9 Q9 h9 => ?_) (fun E9 b9 Q9 h9 => ?_)
          rotate_left 1
          · skip
            obtain ⟨hnr53, Mr53, rfl, gr53, er53⟩ := h9
            have o54 : Mr53 c = some (.inr (6, [.int (iI (k0)), .long (lI (b0)), va_rf (xo σ 30 (z))])) := gr53 _ _ hC9
            have hX55 : xM θ σ w (xL w) Mr53 := hX.ge gr53
            have ge56 : zGe M Mr53 := ge0.tr gr53
            refine zx_out C hκ hT XX (fun z9 h9 => by cases h9) ⟨Mr53, 6, rfl, ge56, (by clear C hκ hκl hS hB hB1 hB2 hB3 hB4 hB5 hB6 hC hw hX hs hT h81 h82 f35a f35b f35c f35d; unfold seG; rw [if_pos (by unfold shB; simp_all)]), by decide, Or.inl er53⟩ (Nat.le_of_ble_eq_true rfl) (Nat.le_of_ble_eq_true rfl)
          obtain ⟨rfl, hnr57, rfl⟩ := h9
          refine z_as (st' := []) rfl rfl rfl ?_
          refine z_widen (n' := 1) (k' := 7) (Nat.le_refl _) (Nat.le_refl _) ?_
          have hn441 := hnr57
          have hse9 : ¬ ((shB w m || !mcB w m x) = true) := by clear C hκ hκl XX; unfold shB; simp_all
          refine z_aload_n C 45 0 dX0_set_44 rfl rfl ?_
          refine z_aload_n C 46 1 dX0_set_45 rfl rfl ?_
          refine z_aload_nq C 47 2 dX0_set_46 rfl rfl ?_
          refine zx_callV (As := [.ref (σ 20 (m)), va_rf (xo σ 30 (x))]) (rest := []) C hκ hκl 50 (k0_rowOf hX hs hw hT hZ (m) (x) hm hfd hx hF) dX0_set_47 q1518 q1520 qs21 q90 q1521 znX0_rowOf (Nat.le_of_ble_eq_true rfl) (Nat.le_of_ble_eq_true rfl) (Nat.le_of_ble_eq_true rfl) (Nat.le_of_ble_eq_true rfl) (zrec_P hX.o) rfl rfl (Nat.le_of_ble_eq_true rfl) rfl (fun v9 Q9 h9 => ?_) (fun E9 b9 Q9 h9 => ?_)
          rotate_left 1
          · skip
            obtain ⟨cr58, hnr58, hcr58, er58, rfl⟩ := h9
            refine zx_out C hκ hT XX (fun z9 h9 => by cases h9) ⟨M, cr58, rfl, ge0, (by unfold seG; rw [if_neg hse9, if_pos (by rw [hnr58]; exact hcr58)]; exact hnr58), hcr58, Or.inr er58⟩ (Nat.le_of_ble_eq_true rfl) (Nat.le_of_ble_eq_true rfl)
          obtain ⟨rfl, hnr59, rfl⟩ := h9
          refine z_as (st' := [.ref (rwA σ w (m) (x))]) rfl rfl rfl ?_
          refine z_widen (n' := 2) (k' := 15) (Nat.le_refl _) (Nat.le_refl _) ?_
          have hag9 := hnr59
          obtain ⟨e9, he9, hr9⟩ := xM.fld hX hs hF hm hfd hx hnr59
          have h179 := (hF m (by omega) (by omega) hfd).1
          have hmm9 := (hS.M (m := m) (by omega) (by omega)).2.2.1
          refine z_astore (lv' := [(0, .ref (σ 0 (0))), (1, .ref (σ 20 (m))), (2, va_rf (xo σ 30 (x))), (3, .ref (c)), (4, .ref (rwA σ w (m) (x)))]) C 52 [1, 2, 3, 4, 0] dX0_set_50 (by decide) rfl rfl ?_
          refine z_aload_n C 53 0 dX0_set_52 rfl rfl ?_
          refine z_aload_n C 54 0 dX0_set_53 rfl rfl ?_
          refine z_aload_n C 55 3 dX0_set_54 rfl rfl ?_
          refine z_aload_n C 56 1 dX0_set_55 rfl rfl ?_
          refine z_getf C hκ (v := va_rf (xo σ 10 (w 17 (m)))) 59 5 zk_X9 (hX.mem (by omega) (by omega)) (by decide) q672 (Or.inl rfl) rfl dX0_set_56 rfl ?_
          have y60 : 0 ≤ w 17 (m) := (by omega)
          rw [xo_y y60]
          refine z_as (st' := [.ref (σ 10 (w 17 (m))), .ref (c), .ref (σ 0 (0)), .ref (σ 0 (0))]) (lv' := [(0, .ref (σ 0 (0))), (1, .ref (σ 20 (m))), (2, va_rf (xo σ 30 (x))), (3, .ref (c)), (4, .ref (rwA σ w (m) (x)))]) rfl rfl rfl ?_
          refine z_callV (As := [.ref (c), .ref (σ 10 (w 17 (m)))]) (rest := [.ref (σ 0 (0))]) C hκ hκl 62 (k0_goesInto hX hs hw hT (c) (k0) (b0) (z) (w 17 (m)) hk0 hz ⟨h179, hmm9.2⟩ hC9) dX0_set_59 q1582 q1584 qs23 q90 q1585 znX0_goesInto (Nat.le_of_ble_eq_true rfl) (Nat.le_of_ble_eq_true rfl) (Nat.le_of_ble_eq_true rfl) (Nat.le_of_ble_eq_true rfl) (zrec_P hX.o) rfl rfl (Nat.le_of_ble_eq_true rfl) rfl (fun v9 Q9 h9 => ?_)
          obtain ⟨rfl, rfl⟩ := h9
          refine z_as (st' := [.int (iI (bI (goG w (k0) (z) (w 17 (m))))), .ref (σ 0 (0))]) rfl rfl rfl ?_
          refine z_iconst C 63 dX0_set_62 rfl ?_
          refine zx_callV (As := [.int (iI (bI (goG w (k0) (z) (w 17 (m))))), .int (iI (2))]) (rest := []) C hκ hκl 66 (k0_need hT hZ (σ 0 (0)) (goG w (k0) (z) (w 17 (m))) (2) ⟨by decide, by decide⟩) dX0_set_63 q1491 q1493 qs20 q90 q1494 znX0_need (Nat.le_of_ble_eq_true rfl) (Nat.le_of_ble_eq_true rfl) (Nat.le_of_ble_eq_true rfl) (Nat.le_of_ble_eq_true rfl) (zrec_P hX.o) rfl rfl (Nat.le_of_ble_eq_true rfl) rfl (fun v9 Q9 h9 => ?_) (fun E9 b9 Q9 h9 => ?_)
          rotate_left 1
          · skip
            obtain ⟨hnr61, Mr61, rfl, gr61, er61⟩ := h9
            have o62 : Mr61 c = some (.inr (6, [.int (iI (k0)), .long (lI (b0)), va_rf (xo σ 30 (z))])) := gr61 _ _ hC9
            have hX63 : xM θ σ w (xL w) Mr61 := hX.ge gr61
            have ge64 : zGe M Mr61 := ge0.tr gr61
            refine zx_out C hκ hT XX (fun z9 h9 => by cases h9) ⟨Mr61, 2, rfl, ge64, (by unfold seG; rw [if_neg hse9, if_neg (by rw [hag9]; decide), if_neg hnr61]), by decide, Or.inl er61⟩ (Nat.le_of_ble_eq_true rfl) (Nat.le_of_ble_eq_true rfl)
          obtain ⟨rfl, hnr65, rfl⟩ := h9
          refine z_as (st' := []) rfl rfl rfl ?_
          refine z_widen (n' := 3) (k' := 22) (Nat.le_refl _) (Nat.le_refl _) ?_
          have hgo9 : goG w k0 z (w 17 m) = true := hnr65
          refine z_aload C 68 4 dX0_set_66 rfl rfl ?_
          refine z_iconst C 69 dX0_set_68 rfl ?_
          refine z_aload_n C 70 3 dX0_set_69 rfl rfl ?_
          refine zx_callS (As := [.ref (rwA σ w (m) (x)), .int (iI (0)), .ref (c)]) (rest := []) C hκ hκl 73 (k0_save hX hs hw hT hZ (rwA σ w (m) (x)) (w 17 m) (1) ((fun _ => fvL w m x)) (e9) (0) (z) (c) (k0) (b0) (xo σ 30 (z)) ⟨by decide, by decide⟩ he9 hr9 (by decide) hmm9.2 hk0 hlb hft (fun e8 t8 => ⟨rfl, go_goB hs hz t8 (by rw [← e8]; exact hgo9)⟩) hTh hC9) dX0_set_70 q1586 q1587 q90 q1588 znX0_save (Nat.le_of_ble_eq_true rfl) (Nat.le_of_ble_eq_true rfl) (Nat.le_of_ble_eq_true rfl) (Nat.le_of_ble_eq_true rfl) rfl (Nat.le_of_ble_eq_true rfl) rfl (fun v9 Q9 h9 => ?_) (fun E9 b9 Q9 h9 => ?_)
          rotate_left 1
          · skip
            obtain ⟨cr66, hnr66, hcr66, er66, rfl⟩ := h9
            refine zx_out C hκ hT XX (fun z9 h9 => by cases h9) (False.elim (hcr66 (hnr66.symm.trans (go_sv hk0 hgo9)))) (Nat.le_of_ble_eq_true rfl) (Nat.le_of_ble_eq_true rfl)
          obtain ⟨rfl, hnr67, er67, hrr67, rfl⟩ := h9
          refine z_as (st' := []) rfl rfl rfl ?_
          refine z_widen (n' := 6) (k' := 232) (Nat.le_refl _) (Nat.le_refl _) ?_
          exact z_vret C dX0_set_73 (Nat.le_of_ble_eq_true rfl) (Nat.le_of_ble_eq_true rfl) ⟨rfl, (by unfold seG; rw [if_neg hse9, if_neg (by rw [hag9]; decide), if_pos hgo9]), er67, hrr67, rfl⟩
        · skip
          refine z_iconst C 35 dX0_set_34 rfl ?_
          refine z_goto C 39 dX0_set_35 (by decide) ?_
          refine z_bipush C 41 dX0_set_39 (by decide) rfl ?_
          refine zx_callV (As := [.int (iI (1)), .int (iI (6))]) (rest := []) C hκ hκl 44 (k0_need hT hZ (σ 0 (0)) (true) (6) ⟨by decide, by decide⟩) dX0_set_41 q1491 q1493 qs20 q90 q1494 znX0_need (Nat.le_of_ble_eq_true rfl) (Nat.le_of_ble_eq_true rfl) (Nat.le_of_ble_eq_true rfl) (Nat.le_of_ble_eq_true rfl) (zrec_P hX.o) rfl rfl (Nat.le_of_ble_eq_true rfl) rfl (fun v9 Q9 h9 => ?_) (fun E9 b9 Q9 h9 => ?_)
          rotate_left 1
          · skip
            obtain ⟨hnr68, Mr68, rfl, gr68, er68⟩ := h9
            have o69 : Mr68 c = some (.inr (6, [.int (iI (k0)), .long (lI (b0)), va_rf (xo σ 30 (z))])) := gr68 _ _ hC9
            have hX70 : xM θ σ w (xL w) Mr68 := hX.ge gr68
            have ge71 : zGe M Mr68 := ge0.tr gr68
            refine zx_out C hκ hT XX (fun z9 h9 => by cases h9) ⟨Mr68, 6, rfl, ge71, (by clear C hκ hκl hS hB hB1 hB2 hB3 hB4 hB5 hB6 hC hw hX hs hT h81 h82 f35a f35b f35c f35d; unfold seG; rw [if_pos (by unfold shB; simp_all)]), by decide, Or.inl er68⟩ (Nat.le_of_ble_eq_true rfl) (Nat.le_of_ble_eq_true rfl)
          obtain ⟨rfl, hnr72, rfl⟩ := h9
          refine z_as (st' := []) rfl rfl rfl ?_
          refine z_widen (n' := 1) (k' := 7) (Nat.le_refl _) (Nat.le_refl _) ?_
          have hn441 := hnr72
          have hse9 : ¬ ((shB w m || !mcB w m x) = true) := by clear C hκ hκl XX; unfold shB; simp_all
          refine z_aload_n C 45 0 dX0_set_44 rfl rfl ?_
          refine z_aload_n C 46 1 dX0_set_45 rfl rfl ?_
          refine z_aload_nq C 47 2 dX0_set_46 rfl rfl ?_
          refine zx_callV (As := [.ref (σ 20 (m)), va_rf (xo σ 30 (x))]) (rest := []) C hκ hκl 50 (k0_rowOf hX hs hw hT hZ (m) (x) hm hfd hx hF) dX0_set_47 q1518 q1520 qs21 q90 q1521 znX0_rowOf (Nat.le_of_ble_eq_true rfl) (Nat.le_of_ble_eq_true rfl) (Nat.le_of_ble_eq_true rfl) (Nat.le_of_ble_eq_true rfl) (zrec_P hX.o) rfl rfl (Nat.le_of_ble_eq_true rfl) rfl (fun v9 Q9 h9 => ?_) (fun E9 b9 Q9 h9 => ?_)
          rotate_left 1
          · skip
            obtain ⟨cr73, hnr73, hcr73, er73, rfl⟩ := h9
            refine zx_out C hκ hT XX (fun z9 h9 => by cases h9) ⟨M, cr73, rfl, ge0, (by unfold seG; rw [if_neg hse9, if_pos (by rw [hnr73]; exact hcr73)]; exact hnr73), hcr73, Or.inr er73⟩ (Nat.le_of_ble_eq_true rfl) (Nat.le_of_ble_eq_true rfl)
          obtain ⟨rfl, hnr74, rfl⟩ := h9
          refine z_as (st' := [.ref (rwA σ w (m) (x))]) rfl rfl rfl ?_
          refine z_widen (n' := 2) (k' := 15) (Nat.le_refl _) (Nat.le_refl _) ?_
          have hag9 := hnr74
          obtain ⟨e9, he9, hr9⟩ := xM.fld hX hs hF hm hfd hx hnr74
          have h179 := (hF m (by omega) (by omega) hfd).1
          have hmm9 := (hS.M (m := m) (by omega) (by omega)).2.2.1
          refine z_astore (lv' := [(0, .ref (σ 0 (0))), (1, .ref (σ 20 (m))), (2, va_rf (xo σ 30 (x))), (3, .ref (c)), (4, .ref (rwA σ w (m) (x)))]) C 52 [1, 2, 3, 4, 0] dX0_set_50 (by decide) rfl rfl ?_
          refine z_aload_n C 53 0 dX0_set_52 rfl rfl ?_
          refine z_aload_n C 54 0 dX0_set_53 rfl rfl ?_
          refine z_aload_n C 55 3 dX0_set_54 rfl rfl ?_
          refine z_aload_n C 56 1 dX0_set_55 rfl rfl ?_
          refine z_getf C hκ (v := va_rf (xo σ 10 (w 17 (m)))) 59 5 zk_X9 (hX.mem (by omega) (by omega)) (by decide) q672 (Or.inl rfl) rfl dX0_set_56 rfl ?_
          have y75 : 0 ≤ w 17 (m) := (by omega)
          rw [xo_y y75]
          refine z_as (st' := [.ref (σ 10 (w 17 (m))), .ref (c), .ref (σ 0 (0)), .ref (σ 0 (0))]) (lv' := [(0, .ref (σ 0 (0))), (1, .ref (σ 20 (m))), (2, va_rf (xo σ 30 (x))), (3, .ref (c)), (4, .ref (rwA σ w (m) (x)))]) rfl rfl rfl ?_
          refine z_callV (As := [.ref (c), .ref (σ 10 (w 17 (m)))]) (rest := [.ref (σ 0 (0))]) C hκ hκl 62 (k0_goesInto hX hs hw hT (c) (k0) (b0) (z) (w 17 (m)) hk0 hz ⟨h179, hmm9.2⟩ hC9) dX0_set_59 q1582 q1584 qs23 q90 q1585 znX0_goesInto (Nat.le_of_ble_eq_true rfl) (Nat.le_of_ble_eq_true rfl) (Nat.le_of_ble_eq_true rfl) (Nat.le_of_ble_eq_true rfl) (zrec_P hX.o) rfl rfl (Nat.le_of_ble_eq_true rfl) rfl (fun v9 Q9 h9 => ?_)
          obtain ⟨rfl, rfl⟩ := h9
          refine z_as (st' := [.int (iI (bI (goG w (k0) (z) (w 17 (m))))), .ref (σ 0 (0))]) rfl rfl rfl ?_
          refine z_iconst C 63 dX0_set_62 rfl ?_
          refine zx_callV (As := [.int (iI (bI (goG w (k0) (z) (w 17 (m))))), .int (iI (2))]) (rest := []) C hκ hκl 66 (k0_need hT hZ (σ 0 (0)) (goG w (k0) (z) (w 17 (m))) (2) ⟨by decide, by decide⟩) dX0_set_63 q1491 q1493 qs20 q90 q1494 znX0_need (Nat.le_of_ble_eq_true rfl) (Nat.le_of_ble_eq_true rfl) (Nat.le_of_ble_eq_true rfl) (Nat.le_of_ble_eq_true rfl) (zrec_P hX.o) rfl rfl (Nat.le_of_ble_eq_true rfl) rfl (fun v9 Q9 h9 => ?_) (fun E9 b9 Q9 h9 => ?_)
          rotate_left 1
          · skip
            obtain ⟨hnr76, Mr76, rfl, gr76, er76⟩ := h9
            have o77 : Mr76 c = some (.inr (6, [.int (iI (k0)), .long (lI (b0)), va_rf (xo σ 30 (z))])) := gr76 _ _ hC9
            have hX78 : xM θ σ w (xL w) Mr76 := hX.ge gr76
            have ge79 : zGe M Mr76 := ge0.tr gr76
            refine zx_out C hκ hT XX (fun z9 h9 => by cases h9) ⟨Mr76, 2, rfl, ge79, (by unfold seG; rw [if_neg hse9, if_neg (by rw [hag9]; decide), if_neg hnr76]), by decide, Or.inl er76⟩ (Nat.le_of_ble_eq_true rfl) (Nat.le_of_ble_eq_true rfl)
          obtain ⟨rfl, hnr80, rfl⟩ := h9
          refine z_as (st' := []) rfl rfl rfl ?_
          refine z_widen (n' := 3) (k' := 22) (Nat.le_refl _) (Nat.le_refl _) ?_
          have hgo9 : goG w k0 z (w 17 m) = true := hnr80
          refine z_aload C 68 4 dX0_set_66 rfl rfl ?_
          refine z_iconst C 69 dX0_set_68 rfl ?_
          refine z_aload_n C 70 3 dX0_set_69 rfl rfl ?_
          refine zx_callS (As := [.ref (rwA σ w (m) (x)), .int (iI (0)), .ref (c)]) (rest := []) C hκ hκl 73 (k0_save hX hs hw hT hZ (rwA σ w (m) (x)) (w 17 m) (1) ((fun _ => fvL w m x)) (e9) (0) (z) (c) (k0) (b0) (xo σ 30 (z)) ⟨by decide, by decide⟩ he9 hr9 (by decide) hmm9.2 hk0 hlb hft (fun e8 t8 => ⟨rfl, go_goB hs hz t8 (by rw [← e8]; exact hgo9)⟩) hTh hC9) dX0_set_70 q1586 q1587 q90 q1588 znX0_save (Nat.le_of_ble_eq_true rfl) (Nat.le_of_ble_eq_true rfl) (Nat.le_of_ble_eq_true rfl) (Nat.le_of_ble_eq_true rfl) rfl (Nat.le_of_ble_eq_true rfl) rfl (fun v9 Q9 h9 => ?_) (fun E9 b9 Q9 h9 => ?_)
          rotate_left 1
          · skip
            obtain ⟨cr81, hnr81, hcr81, er81, rfl⟩ := h9
            refine zx_out C hκ hT XX (fun z9 h9 => by cases h9) (False.elim (hcr81 (hnr81.symm.trans (go_sv hk0 hgo9)))) (Nat.le_of_ble_eq_true rfl) (Nat.le_of_ble_eq_true rfl)
          obtain ⟨rfl, hnr82, er82, hrr82, rfl⟩ := h9
          refine z_as (st' := []) rfl rfl rfl ?_
          refine z_widen (n' := 6) (k' := 232) (Nat.le_refl _) (Nat.le_refl _) ?_
          exact z_vret C dX0_set_73 (Nat.le_of_ble_eq_true rfl) (Nat.le_of_ble_eq_true rfl) ⟨rfl, (by unfold seG; rw [if_neg hse9, if_neg (by rw [hag9]; decide), if_pos hgo9]), er82, hrr82, rfl⟩
