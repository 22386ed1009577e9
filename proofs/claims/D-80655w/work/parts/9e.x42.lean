/-! ===== put ===== -/
def puG (w : mW) (x i k z : Int) : Int := if iaE w x ≠ 0 then iaE w x else if svE (w 4 (w 28 x)) (w 29 x).toNat i k ≠ 0 then svE (w 4 (w 28 x)) (w 29 x).toNat i k else if k = 8 ∧ goG w k z (w 4 (w 28 x)) = false then 2 else 0
theorem sv_ld8 (t i : Int) (ln : Nat) : svE t ln i 8 = ldE t ln i 8 := by unfold svE ldE; simp

set_option maxRecDepth 100000 in
theorem k0_put {l : Launch} {θ : zTh} {σ : xA} {w : mW} {M N : zMap} (hX : xM θ σ w (xL w) M) (hs : xS w) (hw : mWF w) (hT : zTb θ) (hZ : zTx θ l) (x : Int) (i : Int) (c : Nat) (k0 : Int) (b0 : Int) (z : Int) (r_i : inR i) (hx : -1 ≤ x ∧ x < w 27 0) (hk0 : 0 ≤ k0 ∧ k0 ≤ 8) (hz : -1 ≤ z ∧ z < w 27 0) (hlb : inL b0) (hft : k0 < 8 → ftB w k0 b0 = true) (hTh : ∀ x : Int, 0 ≤ x → x < w 27 0 → w 29 x = -1 → w 1 (w 28 x) ≠ 4) (hC9 : M c = some (.inr (6, [.int (iI k0), .long (lI b0), va_rf (xo σ 30 z)]))) : zMX θ l yX0_put (ws_ yX0_put cX0_put 6 none) ⟨248, 7, 460, 10292⟩ [.ref (σ 0 (0)), va_rf (xo σ 30 (x)), .int (iI (i)), .ref (c)] (zP θ M N) (fun v9 Q9 => v9 = none ∧ puG w x i k0 z = 0 ∧ ∃ e' : va_E, xRow θ σ w (w 4 (w 28 x)) (w 29 x).toNat (svU (fun j : Nat => w 31 (20 * x + j)) i (svZ k0 b0 z (w 4 (w 28 x)))) e' ∧ Q9 = zP θ (zup M (σ 32 (x)) e') N) (fun E9 b9 Q9 => ∃ (M1 : zMap) (c9 : Int), Q9 = zP θ M1 N ∧ zGe M M1 ∧ puG w x i k0 z = c9 ∧ c9 ≠ 0 ∧ xEx M1 b9 E9 c9) := by
  refine zx_start (own := RX0) (nm := "put") pnX0 rfl rfl (by cases (xo σ 30 (x)) <;> exact Nat.le_of_ble_eq_true rfl) ?_
  intro κ hκ hκl C XX
  refine z_as (lv' := [(0, .ref (σ 0 (0))), (1, va_rf (xo σ 30 (x))), (2, .int (iI (i))), (3, .ref (c))]) rfl (by cases (xo σ 30 (x)) <;> rfl) rfl ?_
  change Z κ (zP θ M N) 0 0 0 [(0, .ref (σ 0 (0))), (1, va_rf (xo σ 30 (x))), (2, .int (iI (i))), (3, .ref (c))] []
  have hS := hs.S
  have hB := hS.B
  obtain ⟨hB1, hB2, hB3, hB4, hB5, hB6⟩ := hS.B
  have hC := hS.C
  obtain ⟨h81, h82⟩ := hs.r8
  have ge0 : zGe M M := zGe.rf
  refine z_aload_nq C 1 1 dX0_put_0 rfl rfl ?_
  refine zx_callS (As := [va_rf (xo σ 30 (x))]) (rest := []) C hκ hκl 4 (k0_itemsOf hX hs hw hT hZ (x) hx) dX0_put_1 q1671 q1672 q90 q1673 znX0_itemsOf (Nat.le_of_ble_eq_true rfl) (Nat.le_of_ble_eq_true rfl) (Nat.le_of_ble_eq_true rfl) (Nat.le_of_ble_eq_true rfl) rfl (Nat.le_of_ble_eq_true rfl) rfl (fun v9 Q9 h9 => ?_) (fun E9 b9 Q9 h9 => ?_)
  rotate_left 1
  · skip
    obtain ⟨cr1, hnr1, hcr1, er1, rfl⟩ := h9
    refine zx_out C hκ hT XX (fun z9 h9 => by cases h9) ⟨M, cr1, rfl, ge0, (by unfold puG; rw [hnr1, if_pos hcr1]), hcr1, Or.inr er1⟩ (Nat.le_of_ble_eq_true rfl) (Nat.le_of_ble_eq_true rfl)
  obtain ⟨rfl, hnr2, rfl⟩ := h9
  refine z_as (st' := [.ref (σ 32 (x))]) rfl rfl rfl ?_
  refine z_widen (n' := 1) (k' := 8) (Nat.le_refl _) (Nat.le_refl _) ?_
  have hia9 := hnr2
  obtain ⟨x09, h99⟩ := ia_0 hia9
  obtain ⟨e9, he9, hr9⟩ := xM.itm hX x09 hx.2 h99
  have hxx9 := hS.X x09 hx.2
  have hx29 := hxx9.2.1
  have hxxa9 := hxx9.1
  have ht09 := (hxx9.2.2 h99).2
  have htt9 := (hS.T (t := w 28 x) (by omega) hxx9.1.2).2.2.2.1
  refine z_astore (lv' := [(0, .ref (σ 0 (0))), (1, va_rf (xo σ 30 (x))), (2, .int (iI (i))), (3, .ref (c)), (4, .ref (σ 32 (x)))]) C 6 [1, 2, 3, 4, 0] dX0_put_4 (by decide) rfl rfl ?_
  refine z_aload_n C 7 3 dX0_put_6 rfl rfl ?_
  refine z_getf C hκ (v := .int (iI (k0))) 10 0 zk_X6 hC9 (by decide) q247 (Or.inl rfl) rfl dX0_put_7 rfl ?_
  refine z_bipush C 12 dX0_put_10 (by decide) rfl ?_
  refine z_icmp_ne C 47 15 dX0_put_12 (by decide) ⟨by omega, by omega⟩ ⟨by decide, by decide⟩ rfl (fun c3 => ?_) (fun c3 => ?_)
  · skip
    have hgo9 : k0 = 8 → goG w k0 z (w 4 (w 28 x)) = true := fun e => absurd e (by omega)
    refine z_aload C 49 4 dX0_put_47 rfl rfl ?_
    refine z_iload_n C 50 2 dX0_put_49 rfl rfl ?_
    refine z_aload_n C 51 3 dX0_put_50 rfl rfl ?_
    refine zx_callS (As := [.ref (σ 32 (x)), .int (iI (i)), .ref (c)]) (rest := []) C hκ hκl 54 (k0_save hX hs hw hT hZ (σ 32 (x)) (w 4 (w 28 x)) ((w 29 x).toNat) ((fun j : Nat => w 31 (20 * x + j))) (e9) (i) (z) (c) (k0) (b0) (xo σ 30 (z)) r_i he9 hr9 (by omega) (by omega) hk0 hlb hft (fun e8 t8 => ⟨rfl, go_goB hs hz t8 (by rw [← e8]; exact hgo9 e8)⟩) hTh hC9) dX0_put_51 q1586 q1587 q90 q1588 znX0_save (Nat.le_of_ble_eq_true rfl) (Nat.le_of_ble_eq_true rfl) (Nat.le_of_ble_eq_true rfl) (Nat.le_of_ble_eq_true rfl) rfl (Nat.le_of_ble_eq_true rfl) rfl (fun v9 Q9 h9 => ?_) (fun E9 b9 Q9 h9 => ?_)
    rotate_left 1
    · skip
      obtain ⟨cr4, hnr4, hcr4, er4, rfl⟩ := h9
      refine zx_out C hκ hT XX (fun z9 h9 => by cases h9) ⟨M, cr4, rfl, ge0, (by unfold puG; rw [if_neg (by rw [hia9]; decide)]; rw [hnr4, if_pos hcr4]), hcr4, Or.inr er4⟩ (Nat.le_of_ble_eq_true rfl) (Nat.le_of_ble_eq_true rfl)
    obtain ⟨rfl, hnr5, er5, hrr5, rfl⟩ := h9
    refine z_as (st' := []) rfl rfl rfl ?_
    refine z_widen (n' := 4) (k' := 218) (Nat.le_refl _) (Nat.le_refl _) ?_
    exact z_vret C dX0_put_54 (Nat.le_of_ble_eq_true rfl) (Nat.le_of_ble_eq_true rfl) ⟨rfl, (by unfold puG; rw [if_neg (by rw [hia9]; decide), hnr5, if_neg (by decide), if_neg (fun h => by have h2 := hgo9 h.1; rw [h.2] at h2; cases h2)]), er5, hrr5, rfl⟩
  · skip
    refine z_aload C 17 4 dX0_put_15 rfl rfl ?_
    refine zx_callS (As := [.ref (σ 32 (x))]) (rest := []) C hκ hκl 20 (k0_references hT hZ (σ 32 (x)) (w 4 (w 28 x)) ((w 29 x).toNat) ((fun j : Nat => w 31 (20 * x + j))) (e9) he9 hr9) dX0_put_17 q1570 q1571 q90 q1572 znX0_references (Nat.le_of_ble_eq_true rfl) (Nat.le_of_ble_eq_true rfl) (Nat.le_of_ble_eq_true rfl) (Nat.le_of_ble_eq_true rfl) rfl (Nat.le_of_ble_eq_true rfl) rfl (fun v9 Q9 h9 => ?_) (fun E9 b9 Q9 h9 => ?_)
    rotate_left 1
    · skip
      obtain ⟨hnr6, er6, rfl⟩ := h9
      refine zx_out C hκ hT XX (fun z9 h9 => by cases h9) ⟨M, 2, rfl, ge0, (by have e1 : svE (w 4 (w 28 x)) (w 29 x).toNat i k0 = 2 := (by rw [show k0 = 8 by omega]; exact if_pos (Or.inl ⟨rfl, hnr6⟩)); unfold puG; rw [if_neg (by rw [hia9]; decide)]; rw [e1]; rfl), by decide, Or.inr er6⟩ (Nat.le_of_ble_eq_true rfl) (Nat.le_of_ble_eq_true rfl)
    obtain ⟨rfl, hnr7, rfl⟩ := h9
    refine z_as (st' := [.ref (σ 32 (x))]) rfl rfl rfl ?_
    refine z_widen (n' := 2) (k' := 14) (Nat.le_refl _) (Nat.le_refl _) ?_
    refine z_iload_n C 21 2 dX0_put_20 rfl rfl ?_
    refine x_ld8 (rest := []) (e := e9) C hκ hκl hT hZ 22 he9 hr9 hnr7 (by omega) r_i dX0_put_21 (Nat.le_of_ble_eq_true rfl) (Nat.le_of_ble_eq_true rfl) (Nat.le_of_ble_eq_true rfl) (Nat.le_of_ble_eq_true rfl) (Nat.le_of_ble_eq_true rfl) rfl (fun h8 => ?_) (fun E9 c9 b9 hE9 hc9 hz9 => ?_)
    rotate_left 1
    · skip
      refine zx_out C hκ hT XX (fun z9 h9 => by cases h9) ⟨M, c9, rfl, ge0, (by have e1 : svE (w 4 (w 28 x)) (w 29 x).toNat i k0 = c9 := (by rw [show k0 = 8 by omega, sv_ld8]; exact hE9); unfold puG; rw [if_neg (by rw [hia9]; decide)]; rw [e1, if_pos hc9]), hc9, Or.inr hz9⟩ (Nat.le_of_ble_eq_true rfl) (Nat.le_of_ble_eq_true rfl)
    have hld9 := h8
    refine z_as (st' := [va_rf (xo σ 30 ((fun j : Nat => w 31 (20 * x + j)) i.toNat))]) rfl rfl rfl ?_
    refine z_astoreq (lv' := [(0, .ref (σ 0 (0))), (1, va_rf (xo σ 30 (x))), (2, .int (iI (i))), (3, .ref (c)), (4, .ref (σ 32 (x))), (5, va_rf (xo σ 30 ((fun j : Nat => w 31 (20 * x + j)) i.toNat)))]) C 24 [1, 2, 3, 4, 5, 0] dX0_put_22 (by decide) rfl rfl ?_
    refine z_aload_n C 25 0 dX0_put_24 rfl rfl ?_
    refine z_aload_n C 26 3 dX0_put_25 rfl rfl ?_
    refine z_aload_nq C 27 1 dX0_put_26 rfl rfl ?_
    have y9 : 0 ≤ x := (by omega)
    rw [xo_y y9]
    refine z_as (st' := [.ref (σ 30 (x)), .ref (c), .ref (σ 0 (0))]) (lv' := [(0, .ref (σ 0 (0))), (1, .ref (σ 30 (x))), (2, .int (iI (i))), (3, .ref (c)), (4, .ref (σ 32 (x))), (5, va_rf (xo σ 30 ((fun j : Nat => w 31 (20 * x + j)) i.toNat)))]) rfl rfl rfl ?_
    obtain ⟨f10a, f10b, f10c⟩ := hS.X (show 0 ≤ x by omega) (by omega)
    refine x_pget (v := .ref (σ 10 (w 28 (x)))) C hκ 30 1 hX (by omega) (by omega) (by decide) rfl q1274 (Or.inl rfl) rfl dX0_put_27 rfl ?_
    obtain ⟨f11a, f11b, f11c, f11d, f11e, f11f, f11g, f11h⟩ := hS.T (show 0 ≤ w 28 (x) by omega) (by omega)
    obtain ⟨f11i, f11j, f11k, f11l⟩ := hs.ty (show 0 ≤ w 28 (x) by omega) (by omega)
    refine xv_of (rest := [.ref (c), .ref (σ 0 (0))]) C hκ hκl hX hs hw hT (w 28 (x))   ⟨(by omega), (by omega)⟩  33 dX0_put_30 q532 (Nat.le_of_ble_eq_true rfl) (Nat.le_of_ble_eq_true rfl) (Nat.le_of_ble_eq_true rfl) (Nat.le_of_ble_eq_true rfl) (Nat.le_of_ble_eq_true rfl) rfl ?_
    refine z_as (st' := [va_rf (xo σ 10 (w 4 (w 28 (x)))), .ref (c), .ref (σ 0 (0))]) rfl rfl rfl ?_
    have y12 : 0 ≤ w 4 (w 28 (x)) := (by omega)
    rw [xo_y y12]
    refine z_as (st' := [.ref (σ 10 (w 4 (w 28 (x)))), .ref (c), .ref (σ 0 (0))]) (lv' := [(0, .ref (σ 0 (0))), (1, .ref (σ 30 (x))), (2, .int (iI (i))), (3, .ref (c)), (4, .ref (σ 32 (x))), (5, va_rf (xo σ 30 ((fun j : Nat => w 31 (20 * x + j)) i.toNat)))]) rfl rfl rfl ?_
    refine z_callV (As := [.ref (c), .ref (σ 10 (w 4 (w 28 (x))))]) (rest := []) C hκ hκl 36 (k0_goesInto hX hs hw hT (c) (k0) (b0) (z) (w 4 (w 28 (x))) hk0 hz ⟨ht09, by omega⟩ hC9) dX0_put_33 q1582 q1584 qs23 q90 q1585 znX0_goesInto (Nat.le_of_ble_eq_true rfl) (Nat.le_of_ble_eq_true rfl) (Nat.le_of_ble_eq_true rfl) (Nat.le_of_ble_eq_true rfl) (zrec_P hX.o) rfl rfl (Nat.le_of_ble_eq_true rfl) rfl (fun v9 Q9 h9 => ?_)
    obtain ⟨rfl, rfl⟩ := h9
    refine z_as (st' := [.int (iI (bI (goG w (k0) (z) (w 4 (w 28 (x))))))]) rfl rfl rfl ?_
    refine z_ifB_ne C 47 39 dX0_put_36 (by decide) rfl (fun c13 => ?_) (fun c13 => ?_)
    · skip
      have hgo9 : k0 = 8 → goG w k0 z (w 4 (w 28 x)) = true := fun _ => by clear C hκ hκl XX; simp_all
      refine z_aload C 49 4 dX0_put_47 rfl rfl ?_
      refine z_iload_n C 50 2 dX0_put_49 rfl rfl ?_
      refine z_aload_n C 51 3 dX0_put_50 rfl rfl ?_
      refine zx_callS (As := [.ref (σ 32 (x)), .int (iI (i)), .ref (c)]) (rest := []) C hκ hκl 54 (k0_save hX hs hw hT hZ (σ 32 (x)) (w 4 (w 28 x)) ((w 29 x).toNat) ((fun j : Nat => w 31 (20 * x + j))) (e9) (i) (z) (c) (k0) (b0) (xo σ 30 (z)) r_i he9 hr9 (by omega) (by omega) hk0 hlb hft (fun e8 t8 => ⟨rfl, go_goB hs hz t8 (by rw [← e8]; exact hgo9 e8)⟩) hTh hC9) dX0_put_51 q1586 q1587 q90 q1588 znX0_save (Nat.le_of_ble_eq_true rfl) (Nat.le_of_ble_eq_true rfl) (Nat.le_of_ble_eq_true rfl) (Nat.le_of_ble_eq_true rfl) rfl (Nat.le_of_ble_eq_true rfl) rfl (fun v9 Q9 h9 => ?_) (fun E9 b9 Q9 h9 => ?_)
      rotate_left 1
      · skip
        obtain ⟨cr14, hnr14, hcr14, er14, rfl⟩ := h9
        refine zx_out C hκ hT XX (fun z9 h9 => by cases h9) ⟨M, cr14, rfl, ge0, (by unfold puG; rw [if_neg (by rw [hia9]; decide)]; rw [hnr14, if_pos hcr14]), hcr14, Or.inr er14⟩ (Nat.le_of_ble_eq_true rfl) (Nat.le_of_ble_eq_true rfl)
      obtain ⟨rfl, hnr15, er15, hrr15, rfl⟩ := h9
      refine z_as (st' := []) rfl rfl rfl ?_
      refine z_widen (n' := 5) (k' := 224) (Nat.le_refl _) (Nat.le_refl _) ?_
      exact z_vret C dX0_put_54 (Nat.le_of_ble_eq_true rfl) (Nat.le_of_ble_eq_true rfl) ⟨rfl, (by unfold puG; rw [if_neg (by rw [hia9]; decide), hnr15, if_neg (by decide), if_neg (fun h => by have h2 := hgo9 h.1; rw [h.2] at h2; cases h2)]), er15, hrr15, rfl⟩
    · skip
      exact zx_throwI (hh := []) C hκ hκl hT hZ XX dX0_put_39 dX0_put_42 dX0_put_43 dX0_put_46 (Nat.le_of_ble_eq_true rfl) (Nat.le_of_ble_eq_true rfl) (Nat.le_of_ble_eq_true rfl) (Nat.le_of_ble_eq_true rfl) (Nat.le_of_ble_eq_true rfl) (fun b9 => ⟨M, 2, rfl, ge0, (by have e1 : svE (w 4 (w 28 x)) (w 29 x).toNat i k0 = 0 := (by rw [show k0 = 8 by omega, sv_ld8]; exact hld9); have e2 : goG w k0 z (w 4 (w 28 x)) = false := (by clear C hκ hκl XX; simp_all); unfold puG; rw [if_neg (by rw [hia9]; decide)]; rw [e1, if_neg (by decide), if_pos ⟨by omega, e2⟩]), by decide, Or.inr (Or.inr (Or.inl ⟨rfl, rfl⟩))⟩)
