/-! ===== get, item ===== -/
theorem fv_ok {w : mW} (hs : xS w) (hw : mWF w) (hV : mV w) {m x : Int} (hm : 0 ≤ m ∧ m < w 11 0) (hfd : w 16 m = 1) (hx : -1 ≤ x ∧ x < w 27 0) (h : agI w m x = 0) : xVok (w 17 m) (fvL w m x) := by
  have h17 := hV.2.2.2.2 m hm.1 hm.2 hfd
  unfold fvL
  unfold agI at h
  split
  · exact ft_ok h17 (hw.l 26 m) (hV.2.1 m hm.1 hm.2 hfd)
  · rename_i hst
    rw [if_neg hst] at h
    split at h
    · omega
    · exact ft_ok h17 (hw.l 30 _) (hV.2.2.1 x m (by omega) hx.2 hm.1 hm.2 hfd)
theorem it_ld {w : mW} (hs : xS w) {x i as : Int} (x0 : 0 ≤ x) (hx : x < w 27 0) (h9 : w 29 x ≠ -1) (ha : 0 ≤ as ∧ as ≤ 8) : itE w x i as = ldE (w 4 (w 28 x)) (w 29 x).toNat i as := by
  have hX := hs.2.1.X x0 hx
  obtain ⟨q1, q2⟩ := hX.2.2 h9
  have q3 := hX.2.1
  unfold itE aiI ldE mtlB
  generalize w 4 (w 28 x) = t at *
  generalize w 29 x = N at *
  rw [if_neg (show ¬ x = -1 by omega)]
  by_cases h1 : t < 8 <;> by_cases h2 : as < 8
  · rw [if_neg (show ¬ ((as = 8 ∧ t < 8) ∨ (as ≠ 8 ∧ 8 ≤ t)) by omega), if_pos h1]
    simp only [h1, h2, h9, false_or, decide_true, ne_eq, not_true, if_false]
    by_cases h3 : 0 ≤ i ∧ i < N
    · rw [if_pos h3, if_pos rfl, if_neg (show ¬ (i < 0 ∨ (N.toNat : Int) ≤ i) by omega)]
      cases hw : wdB t as <;> simp [show ¬ as = 8 by omega]
    · rw [if_neg h3, if_neg (by decide), if_pos (show (i < 0 ∨ (N.toNat : Int) ≤ i) by omega)]
  · rw [if_pos (show ((as = 8 ∧ t < 8) ∨ (as ≠ 8 ∧ 8 ≤ t)) by omega)]
    simp [h1, h2]
  · rw [if_pos (show ((as = 8 ∧ t < 8) ∨ (as ≠ 8 ∧ 8 ≤ t)) by omega)]
    simp [h1, h2]
  · rw [if_neg (show ¬ ((as = 8 ∧ t < 8) ∨ (as ≠ 8 ∧ 8 ≤ t)) by omega), if_neg h1]
    simp only [h1, h2, h9, false_or, decide_false, ne_eq, not_true, if_false]
    have e8 : as = 8 := by omega
    by_cases h3 : 0 ≤ i ∧ i < N
    · rw [if_pos h3, if_pos rfl, if_neg (show ¬ (i < 0 ∨ (N.toNat : Int) ≤ i) by omega)]
      simp [e8]
    · rw [if_neg h3, if_neg (by decide), if_pos (show (i < 0 ∨ (N.toNat : Int) ≤ i) by omega)]
theorem it_a {w : mW} {x i as c : Int} (hx : -1 ≤ x) (h : iaE w x = c) (hc : c ≠ 0) : itE w x i as = c := by
  have e : ∀ p : Bool, aiI w x i p = c := fun p => by
    unfold iaE at h
    unfold aiI
    by_cases h1 : x < 0
    · rw [if_pos h1] at h; rw [if_pos (by omega)]; exact h
    · rw [if_neg h1] at h; rw [if_neg (by omega)]
      by_cases h2 : w 29 x = -1
      · rw [if_pos h2] at h; rw [if_pos (Or.inl h2)]; exact h
      · rw [if_neg h2] at h; omega
  unfold itE
  rw [e, if_neg hc]
theorem ia_0 {w : mW} {x : Int} (h : iaE w x = 0) : 0 ≤ x ∧ w 29 x ≠ -1 := by
  unfold iaE at h
  split at h
  · omega
  · split at h
    · omega
    · exact ⟨by omega, by assumption⟩
theorem xM.itm {θ : zTh} {σ : xA} {w : mW} {M : zMap} (hX : xM θ σ w (xL w) M) {x : Int} (x0 : 0 ≤ x) (hx : x < w 27 0) (h9 : w 29 x ≠ -1) : ∃ e, M (σ 32 x) = some e ∧ xRow θ σ w (w 4 (w 28 x)) (w 29 x).toNat (fun j => w 31 (20 * x + j)) e := hX.2 32 x (Or.inr (Or.inr (Or.inr (Or.inr (Or.inr (Or.inr (Or.inr (Or.inl ⟨rfl, x0, hx, h9⟩))))))))
theorem iv_ok {w : mW} (hs : xS w) (hw : mWF w) (hV : mV w) {x : Int} (x0 : 0 ≤ x) (hx : x < w 27 0) (h9 : w 29 x ≠ -1) : ∀ j : Nat, j < (w 29 x).toNat → xVok (w 4 (w 28 x)) (w 31 (20 * x + j)) := fun j hj => by
  have hX := hs.2.1.X x0 hx
  exact ft_ok (hX.2.2 h9).2 (hw.l 31 _) (hV.2.2.2.1 x j x0 hx (by omega) (by have := hX.2.1; omega) h9)

set_option maxRecDepth 100000 in
theorem k0_get {l : Launch} {θ : zTh} {σ : xA} {w : mW} {M N : zMap} (hX : xM θ σ w (xL w) M) (hs : xS w) (hw : mWF w) (hT : zTb θ) (hZ : zTx θ l) (m : Int) (x : Int) (as : Int) (c : Nat) (k0 : Int) (b0 : Int) (t0 : Option Nat) (r_as : inR as) (hm : 0 ≤ m ∧ m < w 11 0) (hfd : w 16 m = 1) (hx : -1 ≤ x ∧ x < w 27 0) (hF : xFd w) (ha : 0 ≤ as ∧ as ≤ 8) (hV : mV w) (hC9 : M c = some (.inr (6, [.int (iI k0), .long (lI b0), va_rf t0]))) : zMX θ l yX0_get (ws_ yX0_get cX0_get 6 none) ⟨248, 7, 246, 10293⟩ [.ref (σ 0 (0)), .ref (σ 20 (m)), va_rf (xo σ 30 (x)), .int (iI (as)), .ref (c)] (zP θ M N) (fun v9 Q9 => v9 = none ∧ gtE w m x as = 0 ∧ ∃ M1 : zMap, zGe M M1 ∧ Q9 = zP θ (zup M1 c (.inr (6, [.int (iI as), .long (lI (ldB (w 17 m) as ((fun _ => fvL w m x) (0 : Int).toNat))), va_rf (ldT σ as ((fun _ => fvL w m x) (0 : Int).toNat))]))) N) (fun E9 b9 Q9 => ∃ (M1 : zMap) (c9 : Int), Q9 = zP θ M1 N ∧ zGe M M1 ∧ gtE w m x as = c9 ∧ c9 ≠ 0 ∧ xEx M1 b9 E9 c9) := by
  refine zx_start (own := RX0) (nm := "get") pnX0 rfl rfl (by cases (xo σ 30 (x)) <;> exact Nat.le_of_ble_eq_true rfl) ?_
  intro κ hκ hκl C XX
  refine z_as (lv' := [(0, .ref (σ 0 (0))), (1, .ref (σ 20 (m))), (2, va_rf (xo σ 30 (x))), (3, .int (iI (as))), (4, .ref (c))]) rfl (by cases (xo σ 30 (x)) <;> rfl) rfl ?_
  change Z κ (zP θ M N) 0 0 0 [(0, .ref (σ 0 (0))), (1, .ref (σ 20 (m))), (2, va_rf (xo σ 30 (x))), (3, .int (iI (as))), (4, .ref (c))] []
  have hS := hs.S
  have hB := hS.B
  obtain ⟨hB1, hB2, hB3, hB4, hB5, hB6⟩ := hS.B
  have hC := hS.C
  obtain ⟨h81, h82⟩ := hs.r8
  have ge0 : zGe M M := zGe.rf
  refine z_aload_n C 1 0 dX0_get_0 rfl rfl ?_
  refine z_aload_n C 2 0 dX0_get_1 rfl rfl ?_
  refine z_aload_n C 3 1 dX0_get_2 rfl rfl ?_
  refine z_aload_nq C 4 2 dX0_get_3 rfl rfl ?_
  refine z_callV (As := [.ref (σ 20 (m)), va_rf (xo σ 30 (x))]) (rest := [.ref (σ 0 (0))]) C hκ hκl 7 (k0_mayBe hX hs hw hT (m) (x) hm hx) dX0_get_4 q1249 q1251 qs13 q90 q1252 znX0_mayBe (Nat.le_of_ble_eq_true rfl) (Nat.le_of_ble_eq_true rfl) (Nat.le_of_ble_eq_true rfl) (Nat.le_of_ble_eq_true rfl) (zrec_P hX.o) rfl rfl (Nat.le_of_ble_eq_true rfl) rfl (fun v9 Q9 h9 => ?_)
  obtain ⟨rfl, rfl⟩ := h9
  refine z_as (st' := [.int (iI (bI (mcB w (m) (x)))), .ref (σ 0 (0))]) rfl rfl rfl ?_
  refine z_bipush C 9 dX0_get_7 (by decide) rfl ?_
  refine zx_callV (As := [.int (iI (bI (mcB w (m) (x)))), .int (iI (6))]) (rest := []) C hκ hκl 12 (k0_need hT hZ (σ 0 (0)) (mcB w (m) (x)) (6) ⟨by decide, by decide⟩) dX0_get_9 q1491 q1493 qs20 q90 q1494 znX0_need (Nat.le_of_ble_eq_true rfl) (Nat.le_of_ble_eq_true rfl) (Nat.le_of_ble_eq_true rfl) (Nat.le_of_ble_eq_true rfl) (zrec_P hX.o) rfl rfl (Nat.le_of_ble_eq_true rfl) rfl (fun v9 Q9 h9 => ?_) (fun E9 b9 Q9 h9 => ?_)
  rotate_left 1
  · skip
    obtain ⟨hnr1, Mr1, rfl, gr1, er1⟩ := h9
    have o2 : Mr1 c = some (.inr (6, [.int (iI (k0)), .long (lI (b0)), va_rf (t0)])) := gr1 _ _ hC9
    have hX3 : xM θ σ w (xL w) Mr1 := hX.ge gr1
    have ge4 : zGe M Mr1 := ge0.tr gr1
    refine zx_out C hκ hT XX (fun z9 h9 => by cases h9) ⟨Mr1, 6, rfl, ge4, gtE_n (by clear C hκ hκl hS hB hB1 hB2 hB3 hB4 hB5 hB6 hC hw hX hs hT h81 h82; simpa using hnr1), by decide, Or.inl er1⟩ (Nat.le_of_ble_eq_true rfl) (Nat.le_of_ble_eq_true rfl)
  obtain ⟨rfl, hnr5, rfl⟩ := h9
  refine z_as (st' := []) rfl rfl rfl ?_
  refine z_widen (n' := 1) (k' := 7) (Nat.le_refl _) (Nat.le_refl _) ?_
  have hmc9 : mcB w m x = true := hnr5
  refine z_new (fs := [.int (iI (0)), .long (lI (0)), .null]) C hκ 15 zk_X6 q153 q241 q96 (fun j9 h9 => match j9, h9 with | 0, _ => rfl | 1, _ => rfl | 2, _ => rfl | (j9 + 3), h9 => absurd h9 (by omega)) (Nat.le_of_ble_eq_true rfl) (Nat.le_of_ble_eq_true rfl) dX0_get_12 rfl (fun a6 a6M a6N => ?_)
  refine z_widen (n' := 2) (k' := 10) (Nat.le_refl _) (Nat.le_refl _) ?_
  have ne7 : c ≠ a6 := fun z9 => by have z8 := hC9; rw [z9, a6M] at z8; cases z8
  have fr8 : xFr σ w (xL w) a6 := hX.fr a6M
  have fr9 : M a6 = none := ge0.no a6M
  obtain ⟨M1, eM1⟩ : ∃ z9 : zMap, zup M a6 (.inr (6, [.int (iI (0)), .long (lI (0)), .null]) : va_E) = z9 := ⟨_, rfl⟩
  rw [eM1]
  have o10 : M1 c = some (.inr (6, [.int (iI (k0)), .long (lI (b0)), va_rf (t0)])) := eM1 ▸ (zup_n ne7).trans hC9
  have hX11 : xM θ σ w (xL w) M1 := eM1 ▸ hX.up fr8
  have ge12 : zGe M M1 := eM1 ▸ ge0.up fr9
  have o13 : M1 a6 = some (.inr (6, [.int (iI (0)), .long (lI (0)), .null])) := eM1 ▸ zup_s
  refine z_dup C 16 dX0_get_15 rfl rfl ?_
  refine z_callIN (As := []) (rest := [.ref (a6)]) C hκ hκl hT 19 (k6_init_6 hT (a6) o13) dX0_get_16 q242 q243 q96 q244 (zNd_of znX6_init) rfl (Nat.le_of_ble_eq_true rfl) (Nat.le_of_ble_eq_true rfl) (Nat.le_of_ble_eq_true rfl) (Nat.le_of_ble_eq_true rfl) rfl (Nat.le_of_ble_eq_true rfl) rfl (fun v9 Q9 h9 => ?_)
  obtain ⟨rfl, rfl⟩ := h9
  obtain ⟨M2, eM2⟩ : ∃ z9 : zMap, zup M1 a6 (.inr (6, [.int (iI (4)), .long (lI (0)), .null]) : va_E) = z9 := ⟨_, rfl⟩
  rw [eM2]
  have o14 : M2 c = some (.inr (6, [.int (iI (k0)), .long (lI (b0)), va_rf (t0)])) := eM2 ▸ (zup_n ne7).trans o10
  have hX15 : xM θ σ w (xL w) M2 := eM2 ▸ hX11.up fr8
  have ge16 : zGe M M2 := eM2 ▸ ge12.up fr9
  have o17 : M2 a6 = some (.inr (6, [.int (iI (4)), .long (lI (0)), .null])) := eM2 ▸ zup_s
  refine z_as (st' := [.ref (a6)]) rfl rfl rfl ?_
  refine z_astore (lv' := [(0, .ref (σ 0 (0))), (1, .ref (σ 20 (m))), (2, va_rf (xo σ 30 (x))), (3, .int (iI (as))), (4, .ref (c)), (5, .ref (a6))]) C 21 [1, 2, 3, 4, 5, 0] dX0_get_19 (by decide) rfl rfl ?_
  refine z_aload_n C 22 0 dX0_get_21 rfl rfl ?_
  refine z_aload_n C 23 1 dX0_get_22 rfl rfl ?_
  refine z_aload_nq C 24 2 dX0_get_23 rfl rfl ?_
  refine zx_callV (As := [.ref (σ 20 (m)), va_rf (xo σ 30 (x))]) (rest := []) C hκ hκl 27 (k0_rowOf hX15 hs hw hT hZ (m) (x) hm hfd hx hF) dX0_get_24 q1518 q1520 qs21 q90 q1521 znX0_rowOf (Nat.le_of_ble_eq_true rfl) (Nat.le_of_ble_eq_true rfl) (Nat.le_of_ble_eq_true rfl) (Nat.le_of_ble_eq_true rfl) (zrec_P hX15.o) rfl rfl (Nat.le_of_ble_eq_true rfl) rfl (fun v9 Q9 h9 => ?_) (fun E9 b9 Q9 h9 => ?_)
  rotate_left 1
  · skip
    obtain ⟨cr18, hnr18, hcr18, er18, rfl⟩ := h9
    refine zx_out C hκ hT XX (fun z9 h9 => by cases h9) ⟨M2, cr18, rfl, ge16, gtE_a hmc9 hnr18 hcr18, hcr18, Or.inr er18⟩ (Nat.le_of_ble_eq_true rfl) (Nat.le_of_ble_eq_true rfl)
  obtain ⟨rfl, hnr19, rfl⟩ := h9
  refine z_as (st' := [.ref (rwA σ w (m) (x))]) rfl rfl rfl ?_
  refine z_widen (n' := 3) (k' := 18) (Nat.le_refl _) (Nat.le_refl _) ?_
  obtain ⟨e9, he9, hr9⟩ := xM.fld hX15 hs hF hm hfd hx hnr19
  have hvk9 := fv_ok hs hw hV hm hfd hx hnr19
  have h179 := hV.2.2.2.2 m hm.1 hm.2 hfd
  refine z_iconst C 28 dX0_get_27 rfl ?_
  refine z_iload_n C 29 3 dX0_get_28 rfl rfl ?_
  refine z_aload C 31 5 dX0_get_29 rfl rfl ?_
  refine zx_callS (As := [.ref (rwA σ w (m) (x)), .int (iI (0)), .int (iI (as)), .ref (a6)]) (rest := []) C hκ hκl 34 (k0_load hT hZ (rwA σ w (m) (x)) (w 17 m) (1) ((fun _ => fvL w m x)) (e9) (0) (as) (a6) (4) (0) (none) ⟨by decide, by decide⟩ r_as he9 hr9 (fun _ _ => hvk9) (by decide) ha o17) dX0_get_31 q1523 q1524 q90 q1525 znX0_load (Nat.le_of_ble_eq_true rfl) (Nat.le_of_ble_eq_true rfl) (Nat.le_of_ble_eq_true rfl) (Nat.le_of_ble_eq_true rfl) rfl (Nat.le_of_ble_eq_true rfl) rfl (fun v9 Q9 h9 => ?_) (fun E9 b9 Q9 h9 => ?_)
  rotate_left 1
  · skip
    obtain ⟨cr20, hnr20, hcr20, er20, rfl⟩ := h9
    refine zx_out C hκ hT XX (fun z9 h9 => by cases h9) ⟨M2, cr20, rfl, ge16, (by rw [gtE_0 h179 ha hmc9 hnr19]; exact hnr20), hcr20, Or.inr er20⟩ (Nat.le_of_ble_eq_true rfl) (Nat.le_of_ble_eq_true rfl)
  obtain ⟨rfl, hnr21, rfl⟩ := h9
  obtain ⟨M3, eM3⟩ : ∃ z9 : zMap, zup M2 a6 (.inr (6, [.int (iI (as)), .long (lI (ldB (w 17 m) (as) ((fun _ => fvL w m x) (0 : Int).toNat))), va_rf (ldT σ (as) ((fun _ => fvL w m x) (0 : Int).toNat))]) : va_E) = z9 := ⟨_, rfl⟩
  rw [eM3]
  have o22 : M3 c = some (.inr (6, [.int (iI (k0)), .long (lI (b0)), va_rf (t0)])) := eM3 ▸ (zup_n ne7).trans o14
  have hX23 : xM θ σ w (xL w) M3 := eM3 ▸ hX15.up fr8
  have ge24 : zGe M M3 := eM3 ▸ ge16.up fr9
  have o25 : M3 a6 = some (.inr (6, [.int (iI (as)), .long (lI (ldB (w 17 m) (as) ((fun _ => fvL w m x) (0 : Int).toNat))), va_rf (ldT σ (as) ((fun _ => fvL w m x) (0 : Int).toNat))])) := eM3 ▸ zup_s
  refine z_as (st' := []) rfl rfl rfl ?_
  refine z_widen (n' := 7) (k' := 246) (Nat.le_refl _) (Nat.le_refl _) ?_
  have hok9 : gtE w m x as = 0 := by rw [gtE_0 h179 ha hmc9 hnr19]; exact hnr21
  refine z_aload C 36 4 dX0_get_34 rfl rfl ?_
  refine z_aload C 38 5 dX0_get_36 rfl rfl ?_
  refine z_callV (As := [.ref (a6)]) (rest := []) C hκ hκl 41 (k6_become hT (c) (k0) (b0) (t0) (a6) (as) (ldB (w 17 m) (as) ((fun _ => fvL w m x) (0 : Int).toNat)) (ldT σ (as) ((fun _ => fvL w m x) (0 : Int).toNat)) o22 o25 ne7) dX0_get_38 q1574 q1575 q1576 q96 q1577 znX6_become (Nat.le_of_ble_eq_true rfl) (Nat.le_of_ble_eq_true rfl) (Nat.le_of_ble_eq_true rfl) (Nat.le_of_ble_eq_true rfl) (zrec_P o22) rfl rfl (Nat.le_of_ble_eq_true rfl) rfl (fun v9 Q9 h9 => ?_)
  obtain ⟨rfl, rfl⟩ := h9
  obtain ⟨M4, eM4⟩ : ∃ z9 : zMap, zup M3 c (.inr (6, [.int (iI (as)), .long (lI (ldB (w 17 m) (as) ((fun _ => fvL w m x) (0 : Int).toNat))), va_rf (ldT σ (as) ((fun _ => fvL w m x) (0 : Int).toNat))]) : va_E) = z9 := ⟨_, rfl⟩
  rw [eM4]
  have o26 : M4 a6 = some (.inr (6, [.int (iI (as)), .long (lI (ldB (w 17 m) (as) ((fun _ => fvL w m x) (0 : Int).toNat))), va_rf (ldT σ (as) ((fun _ => fvL w m x) (0 : Int).toNat))])) := eM4 ▸ (zup_n (fun z9 => ne7 z9.symm)).trans o25
  have o27 : M4 c = some (.inr (6, [.int (iI (as)), .long (lI (ldB (w 17 m) (as) ((fun _ => fvL w m x) (0 : Int).toNat))), va_rf (ldT σ (as) ((fun _ => fvL w m x) (0 : Int).toNat))])) := eM4 ▸ zup_s
  refine z_as (st' := []) rfl rfl rfl ?_
  exact z_vret C dX0_get_41 (Nat.le_of_ble_eq_true rfl) (Nat.le_of_ble_eq_true rfl) ⟨rfl, hok9, M3, ge24, congrArg (fun M9 => zP θ M9 N) eM4.symm⟩
set_option maxRecDepth 100000 in
theorem k0_item {l : Launch} {θ : zTh} {σ : xA} {w : mW} {M N : zMap} (hX : xM θ σ w (xL w) M) (hs : xS w) (hw : mWF w) (hT : zTb θ) (hZ : zTx θ l) (x : Int) (i : Int) (as : Int) (c : Nat) (k0 : Int) (b0 : Int) (t0 : Option Nat) (r_i : inR i) (r_as : inR as) (hx : -1 ≤ x ∧ x < w 27 0) (ha : 0 ≤ as ∧ as ≤ 8) (hV : mV w) (hC9 : M c = some (.inr (6, [.int (iI k0), .long (lI b0), va_rf t0]))) : zMX θ l yX0_item (ws_ yX0_item cX0_item 6 none) ⟨11, 6, 239, 10293⟩ [.ref (σ 0 (0)), va_rf (xo σ 30 (x)), .int (iI (i)), .int (iI (as)), .ref (c)] (zP θ M N) (fun v9 Q9 => v9 = none ∧ itE w x i as = 0 ∧ ∃ M1 : zMap, zGe M M1 ∧ Q9 = zP θ (zup M1 c (.inr (6, [.int (iI as), .long (lI (ldB (w 4 (w 28 x)) as ((fun j : Nat => w 31 (20 * x + j)) i.toNat))), va_rf (ldT σ as ((fun j : Nat => w 31 (20 * x + j)) i.toNat))]))) N) (fun E9 b9 Q9 => ∃ (M1 : zMap) (c9 : Int), Q9 = zP θ M1 N ∧ zGe M M1 ∧ itE w x i as = c9 ∧ c9 ≠ 0 ∧ xEx M1 b9 E9 c9) := by
  refine zx_start (own := RX0) (nm := "item") pnX0 rfl rfl (by cases (xo σ 30 (x)) <;> exact Nat.le_of_ble_eq_true rfl) ?_
  intro κ hκ hκl C XX
  refine z_as (lv' := [(0, .ref (σ 0 (0))), (1, va_rf (xo σ 30 (x))), (2, .int (iI (i))), (3, .int (iI (as))), (4, .ref (c))]) rfl (by cases (xo σ 30 (x)) <;> rfl) rfl ?_
  change Z κ (zP θ M N) 0 0 0 [(0, .ref (σ 0 (0))), (1, va_rf (xo σ 30 (x))), (2, .int (iI (i))), (3, .int (iI (as))), (4, .ref (c))] []
  have hS := hs.S
  have hB := hS.B
  obtain ⟨hB1, hB2, hB3, hB4, hB5, hB6⟩ := hS.B
  have hC := hS.C
  obtain ⟨h81, h82⟩ := hs.r8
  have ge0 : zGe M M := zGe.rf
  refine z_new (fs := [.int (iI (0)), .long (lI (0)), .null]) C hκ 3 zk_X6 q153 q241 q96 (fun j9 h9 => match j9, h9 with | 0, _ => rfl | 1, _ => rfl | 2, _ => rfl | (j9 + 3), h9 => absurd h9 (by omega)) (Nat.le_of_ble_eq_true rfl) (Nat.le_of_ble_eq_true rfl) dX0_item_0 rfl (fun a1 a1M a1N => ?_)
  refine z_widen (n' := 1) (k' := 3) (Nat.le_refl _) (Nat.le_refl _) ?_
  have ne2 : c ≠ a1 := fun z9 => by have z8 := hC9; rw [z9, a1M] at z8; cases z8
  have fr3 : xFr σ w (xL w) a1 := hX.fr a1M
  have fr4 : M a1 = none := ge0.no a1M
  obtain ⟨M1, eM1⟩ : ∃ z9 : zMap, zup M a1 (.inr (6, [.int (iI (0)), .long (lI (0)), .null]) : va_E) = z9 := ⟨_, rfl⟩
  rw [eM1]
  have o5 : M1 c = some (.inr (6, [.int (iI (k0)), .long (lI (b0)), va_rf (t0)])) := eM1 ▸ (zup_n ne2).trans hC9
  have hX6 : xM θ σ w (xL w) M1 := eM1 ▸ hX.up fr3
  have ge7 : zGe M M1 := eM1 ▸ ge0.up fr4
  have o8 : M1 a1 = some (.inr (6, [.int (iI (0)), .long (lI (0)), .null])) := eM1 ▸ zup_s
  refine z_dup C 4 dX0_item_3 rfl rfl ?_
  refine z_callIN (As := []) (rest := [.ref (a1)]) C hκ hκl hT 7 (k6_init_6 hT (a1) o8) dX0_item_4 q242 q243 q96 q244 (zNd_of znX6_init) rfl (Nat.le_of_ble_eq_true rfl) (Nat.le_of_ble_eq_true rfl) (Nat.le_of_ble_eq_true rfl) (Nat.le_of_ble_eq_true rfl) rfl (Nat.le_of_ble_eq_true rfl) rfl (fun v9 Q9 h9 => ?_)
  obtain ⟨rfl, rfl⟩ := h9
  obtain ⟨M2, eM2⟩ : ∃ z9 : zMap, zup M1 a1 (.inr (6, [.int (iI (4)), .long (lI (0)), .null]) : va_E) = z9 := ⟨_, rfl⟩
  rw [eM2]
  have o9 : M2 c = some (.inr (6, [.int (iI (k0)), .long (lI (b0)), va_rf (t0)])) := eM2 ▸ (zup_n ne2).trans o5
  have hX10 : xM θ σ w (xL w) M2 := eM2 ▸ hX6.up fr3
  have ge11 : zGe M M2 := eM2 ▸ ge7.up fr4
  have o12 : M2 a1 = some (.inr (6, [.int (iI (4)), .long (lI (0)), .null])) := eM2 ▸ zup_s
  refine z_as (st' := [.ref (a1)]) rfl rfl rfl ?_
  refine z_astore (lv' := [(0, .ref (σ 0 (0))), (1, va_rf (xo σ 30 (x))), (2, .int (iI (i))), (3, .int (iI (as))), (4, .ref (c)), (5, .ref (a1))]) C 9 [1, 2, 3, 4, 5, 0] dX0_item_7 (by decide) rfl rfl ?_
  refine z_aload_nq C 10 1 dX0_item_9 rfl rfl ?_
  refine zx_callS (As := [va_rf (xo σ 30 (x))]) (rest := []) C hκ hκl 13 (k0_itemsOf hX10 hs hw hT hZ (x) hx) dX0_item_10 q1671 q1672 q90 q1673 znX0_itemsOf (Nat.le_of_ble_eq_true rfl) (Nat.le_of_ble_eq_true rfl) (Nat.le_of_ble_eq_true rfl) (Nat.le_of_ble_eq_true rfl) rfl (Nat.le_of_ble_eq_true rfl) rfl (fun v9 Q9 h9 => ?_) (fun E9 b9 Q9 h9 => ?_)
  rotate_left 1
  · skip
    obtain ⟨cr13, hnr13, hcr13, er13, rfl⟩ := h9
    refine zx_out C hκ hT XX (fun z9 h9 => by cases h9) ⟨M2, cr13, rfl, ge11, it_a hx.1 hnr13 hcr13, hcr13, Or.inr er13⟩ (Nat.le_of_ble_eq_true rfl) (Nat.le_of_ble_eq_true rfl)
  obtain ⟨rfl, hnr14, rfl⟩ := h9
  refine z_as (st' := [.ref (σ 32 (x))]) rfl rfl rfl ?_
  refine z_widen (n' := 2) (k' := 11) (Nat.le_refl _) (Nat.le_refl _) ?_
  obtain ⟨x09, h99⟩ := ia_0 hnr14
  obtain ⟨e9, he9, hr9⟩ := xM.itm hX10 x09 hx.2 h99
  have hvk9 := iv_ok hs hw hV x09 hx.2 h99
  have hx29 := (hS.X x09 hx.2).2.1
  refine z_iload_n C 14 2 dX0_item_13 rfl rfl ?_
  refine z_iload_n C 15 3 dX0_item_14 rfl rfl ?_
  refine z_aload C 17 5 dX0_item_15 rfl rfl ?_
  refine zx_callS (As := [.ref (σ 32 (x)), .int (iI (i)), .int (iI (as)), .ref (a1)]) (rest := []) C hκ hκl 20 (k0_load hT hZ (σ 32 (x)) (w 4 (w 28 x)) ((w 29 x).toNat) ((fun j : Nat => w 31 (20 * x + j))) (e9) (i) (as) (a1) (4) (0) (none) r_i r_as he9 hr9 hvk9 (by omega) ha o12) dX0_item_17 q1523 q1524 q90 q1525 znX0_load (Nat.le_of_ble_eq_true rfl) (Nat.le_of_ble_eq_true rfl) (Nat.le_of_ble_eq_true rfl) (Nat.le_of_ble_eq_true rfl) rfl (Nat.le_of_ble_eq_true rfl) rfl (fun v9 Q9 h9 => ?_) (fun E9 b9 Q9 h9 => ?_)
  rotate_left 1
  · skip
    obtain ⟨cr15, hnr15, hcr15, er15, rfl⟩ := h9
    refine zx_out C hκ hT XX (fun z9 h9 => by cases h9) ⟨M2, cr15, rfl, ge11, (by rw [it_ld hs x09 hx.2 h99 ha]; exact hnr15), hcr15, Or.inr er15⟩ (Nat.le_of_ble_eq_true rfl) (Nat.le_of_ble_eq_true rfl)
  obtain ⟨rfl, hnr16, rfl⟩ := h9
  obtain ⟨M3, eM3⟩ : ∃ z9 : zMap, zup M2 a1 (.inr (6, [.int (iI (as)), .long (lI (ldB (w 4 (w 28 x)) (as) ((fun j : Nat => w 31 (20 * x + j)) (i).toNat))), va_rf (ldT σ (as) ((fun j : Nat => w 31 (20 * x + j)) (i).toNat))]) : va_E) = z9 := ⟨_, rfl⟩
  rw [eM3]
  have o17 : M3 c = some (.inr (6, [.int (iI (k0)), .long (lI (b0)), va_rf (t0)])) := eM3 ▸ (zup_n ne2).trans o9
  have hX18 : xM θ σ w (xL w) M3 := eM3 ▸ hX10.up fr3
  have ge19 : zGe M M3 := eM3 ▸ ge11.up fr4
  have o20 : M3 a1 = some (.inr (6, [.int (iI (as)), .long (lI (ldB (w 4 (w 28 x)) (as) ((fun j : Nat => w 31 (20 * x + j)) (i).toNat))), va_rf (ldT σ (as) ((fun j : Nat => w 31 (20 * x + j)) (i).toNat))])) := eM3 ▸ zup_s
  refine z_as (st' := []) rfl rfl rfl ?_
  refine z_widen (n' := 6) (k' := 239) (Nat.le_refl _) (Nat.le_refl _) ?_
  have hok9 : itE w x i as = 0 := by rw [it_ld hs x09 hx.2 h99 ha]; exact hnr16
  refine z_aload C 22 4 dX0_item_20 rfl rfl ?_
  refine z_aload C 24 5 dX0_item_22 rfl rfl ?_
  refine z_callV (As := [.ref (a1)]) (rest := []) C hκ hκl 27 (k6_become hT (c) (k0) (b0) (t0) (a1) (as) (ldB (w 4 (w 28 x)) (as) ((fun j : Nat => w 31 (20 * x + j)) (i).toNat)) (ldT σ (as) ((fun j : Nat => w 31 (20 * x + j)) (i).toNat)) o17 o20 ne2) dX0_item_24 q1574 q1575 q1576 q96 q1577 znX6_become (Nat.le_of_ble_eq_true rfl) (Nat.le_of_ble_eq_true rfl) (Nat.le_of_ble_eq_true rfl) (Nat.le_of_ble_eq_true rfl) (zrec_P o17) rfl rfl (Nat.le_of_ble_eq_true rfl) rfl (fun v9 Q9 h9 => ?_)
  obtain ⟨rfl, rfl⟩ := h9
  obtain ⟨M4, eM4⟩ : ∃ z9 : zMap, zup M3 c (.inr (6, [.int (iI (as)), .long (lI (ldB (w 4 (w 28 x)) (as) ((fun j : Nat => w 31 (20 * x + j)) (i).toNat))), va_rf (ldT σ (as) ((fun j : Nat => w 31 (20 * x + j)) (i).toNat))]) : va_E) = z9 := ⟨_, rfl⟩
  rw [eM4]
  have o21 : M4 a1 = some (.inr (6, [.int (iI (as)), .long (lI (ldB (w 4 (w 28 x)) (as) ((fun j : Nat => w 31 (20 * x + j)) (i).toNat))), va_rf (ldT σ (as) ((fun j : Nat => w 31 (20 * x + j)) (i).toNat))])) := eM4 ▸ (zup_n (fun z9 => ne2 z9.symm)).trans o20
  have o22 : M4 c = some (.inr (6, [.int (iI (as)), .long (lI (ldB (w 4 (w 28 x)) (as) ((fun j : Nat => w 31 (20 * x + j)) (i).toNat))), va_rf (ldT σ (as) ((fun j : Nat => w 31 (20 * x + j)) (i).toNat))])) := eM4 ▸ zup_s
  refine z_as (st' := []) rfl rfl rfl ?_
  exact z_vret C dX0_item_27 (Nat.le_of_ble_eq_true rfl) (Nat.le_of_ble_eq_true rfl) ⟨rfl, hok9, M3, ge19, congrArg (fun M9 => zP θ M9 N) eM4.symm⟩
