/-! ===== copy ===== -/
set_option maxHeartbeats 3000000 in
set_option maxRecDepth 100000 in
theorem k0_copy {l : Launch} {θ : zTh} {σ : xA} {w : mW} {M N : zMap} (hX : xM θ σ w (xL w) M) (hs : xS w) (hw : mWF w) (hT : zTb θ) (hZ : zTx θ l) (a : Int) (i : Int) (b : Int) (j : Int) (n : Int) (r_i : inR i) (r_j : inR j) (r_n : inR n) (ha : -1 ≤ a ∧ a < w 27 0) (hb : -1 ≤ b ∧ b < w 27 0) (hV : mV w) (hIt : xIt w) (hTh : ∀ x : Int, 0 ≤ x → x < w 27 0 → w 29 x = -1 → w 1 (w 28 x) ≠ 4) : zMX θ l yX0_copy (ws_ yX0_copy cX0_copy 13 none) ⟨247, 8, 1600, 10250⟩ [.ref (σ 0 (0)), va_rf (xo σ 30 (a)), .int (iI (i)), va_rf (xo σ 30 (b)), .int (iI (j)), .int (iI (n))] (zP θ M N) (fun v9 Q9 => v9 = none ∧ ∃ M1 : zMap, Q9 = zP θ M1 N ∧ xM θ σ (cxW w a i b j n.toNat) (xL (cxW w a i b j n.toNat)) M1 ∧ cpC w a i b j n = (0, n.toNat)) (fun E9 b9 Q9 => ∃ (M1 : zMap) (c9 : Int) (k9 : Nat), Q9 = zP θ M1 N ∧ xM θ σ (cxW w a i b j k9) (xL (cxW w a i b j k9)) M1 ∧ cpC w a i b j n = (c9, k9) ∧ c9 ≠ 0 ∧ xEz E9 c9) := by
  refine zx_start (own := RX0) (nm := "copy") pnX0 rfl rfl (by cases (xo σ 30 (a)) <;> cases (xo σ 30 (b)) <;> exact Nat.le_of_ble_eq_true rfl) ?_
  intro κ hκ hκl C XX
  refine z_as (lv' := [(0, .ref (σ 0 (0))), (1, va_rf (xo σ 30 (a))), (2, .int (iI (i))), (3, va_rf (xo σ 30 (b))), (4, .int (iI (j))), (5, .int (iI (n)))]) rfl (by cases (xo σ 30 (a)) <;> cases (xo σ 30 (b)) <;> rfl) rfl ?_
  change Z κ (zP θ M N) 0 0 0 [(0, .ref (σ 0 (0))), (1, va_rf (xo σ 30 (a))), (2, .int (iI (i))), (3, va_rf (xo σ 30 (b))), (4, .int (iI (j))), (5, .int (iI (n)))] []
  have hS := hs.S
  have hB := hS.B
  obtain ⟨hB1, hB2, hB3, hB4, hB5, hB6⟩ := hS.B
  have hC := hS.C
  obtain ⟨h81, h82⟩ := hs.r8
  have ri1 := r_i.1; have ri2 := r_i.2; have rj1 := r_j.1; have rj2 := r_j.2; have rn1 := r_n.1; have rn2 := r_n.2
  refine z_aload_nq C 1 1 dX0_copy_0 rfl rfl ?_
  rcases Int.lt_or_le (a) 0 with n1 | n1
  · skip
    rw [xo_n n1]
    refine z_as (st' := [.null]) (lv' := [(0, .ref (σ 0 (0))), (1, .null), (2, .int (iI (i))), (3, va_rf (xo σ 30 (b))), (4, .int (iI (j))), (5, .int (iI (n)))]) rfl rfl rfl ?_
    refine zx_getfN (rest := []) C hκ hκl hT hZ 1 zk_X24 (by decide) q1274 (Or.inl rfl) dX0_copy_1 (Nat.le_of_ble_eq_true rfl) (Nat.le_of_ble_eq_true rfl) (Nat.le_of_ble_eq_true rfl) (Nat.le_of_ble_eq_true rfl) (Nat.le_of_ble_eq_true rfl) (fun b9 => ?_)
    refine zx_out C hκ hT XX (fun z9 h9 => by cases h9) ⟨M, 1, 0, rfl, (by rw [cxW_0]; exact hX), (cpC_E (cpE_1 (by omega)) (by decide)), by decide, Or.inl ⟨rfl, rfl⟩⟩ (Nat.le_of_ble_eq_true rfl) (Nat.le_of_ble_eq_true rfl)
  · skip
    rw [xo_y n1]
    refine z_as (st' := [.ref (σ 30 (a))]) (lv' := [(0, .ref (σ 0 (0))), (1, .ref (σ 30 (a))), (2, .int (iI (i))), (3, va_rf (xo σ 30 (b))), (4, .int (iI (j))), (5, .int (iI (n)))]) rfl rfl rfl ?_
    obtain ⟨f2a, f2b, f2c⟩ := hS.X (show 0 ≤ a by omega) (by omega)
    refine x_pget (v := .ref (σ 10 (w 28 (a)))) C hκ 4 1 hX (by omega) (by omega) (by decide) rfl q1274 (Or.inl rfl) rfl dX0_copy_1 rfl ?_
    refine z_astore (lv' := [(0, .ref (σ 0 (0))), (1, .ref (σ 30 (a))), (2, .int (iI (i))), (3, va_rf (xo σ 30 (b))), (4, .int (iI (j))), (5, .int (iI (n))), (6, .ref (σ 10 (w 28 (a))))]) C 6 [1, 2, 3, 4, 5, 6, 0] dX0_copy_4 (by decide) rfl rfl ?_
    refine z_aload_nq C 7 3 dX0_copy_6 rfl rfl ?_
    rcases Int.lt_or_le (b) 0 with n3 | n3
    · skip
      rw [xo_n n3]
      refine z_as (st' := [.null]) (lv' := [(0, .ref (σ 0 (0))), (1, .ref (σ 30 (a))), (2, .int (iI (i))), (3, .null), (4, .int (iI (j))), (5, .int (iI (n))), (6, .ref (σ 10 (w 28 (a))))]) rfl rfl rfl ?_
      refine zx_getfN (rest := []) C hκ hκl hT hZ 1 zk_X24 (by decide) q1274 (Or.inl rfl) dX0_copy_7 (Nat.le_of_ble_eq_true rfl) (Nat.le_of_ble_eq_true rfl) (Nat.le_of_ble_eq_true rfl) (Nat.le_of_ble_eq_true rfl) (Nat.le_of_ble_eq_true rfl) (fun b9 => ?_)
      refine zx_out C hκ hT XX (fun z9 h9 => by cases h9) ⟨M, 1, 0, rfl, (by rw [cxW_0]; exact hX), (cpC_E (cpE_1 (by omega)) (by decide)), by decide, Or.inl ⟨rfl, rfl⟩⟩ (Nat.le_of_ble_eq_true rfl) (Nat.le_of_ble_eq_true rfl)
    · skip
      rw [xo_y n3]
      refine z_as (st' := [.ref (σ 30 (b))]) (lv' := [(0, .ref (σ 0 (0))), (1, .ref (σ 30 (a))), (2, .int (iI (i))), (3, .ref (σ 30 (b))), (4, .int (iI (j))), (5, .int (iI (n))), (6, .ref (σ 10 (w 28 (a))))]) rfl rfl rfl ?_
      obtain ⟨f4a, f4b, f4c⟩ := hS.X (show 0 ≤ b by omega) (by omega)
      refine x_pget (v := .ref (σ 10 (w 28 (b)))) C hκ 10 1 hX (by omega) (by omega) (by decide) rfl q1274 (Or.inl rfl) rfl dX0_copy_7 rfl ?_
      refine z_astore (lv' := [(0, .ref (σ 0 (0))), (1, .ref (σ 30 (a))), (2, .int (iI (i))), (3, .ref (σ 30 (b))), (4, .int (iI (j))), (5, .int (iI (n))), (6, .ref (σ 10 (w 28 (a)))), (7, .ref (σ 10 (w 28 (b))))]) C 12 [1, 2, 3, 4, 5, 6, 7, 0] dX0_copy_10 (by decide) rfl rfl ?_
      refine z_aload_n C 13 1 dX0_copy_12 rfl rfl ?_
      refine x_isMany C hκ hT 16 hX (by omega) (by omega) q1674 dX0_copy_13 rfl ?_
      refine z_as (st' := [.int (iI (bI (decide (w 29 (a) ≠ -1))))]) rfl rfl rfl ?_
      refine z_ifB_eq C 26 19 dX0_copy_16 (by decide) rfl (fun c5 => ?_) (fun c5 => ?_)
      · skip
        have c5b : ¬ ((w 29 (a) ≠ -1)) := of_decide_eq_false c5
        exact zx_throwS (hh := []) C hκ hκl hT hZ XX dX0_copy_26 dX0_copy_29 dX0_copy_30 dX0_copy_33 (Nat.le_of_ble_eq_true rfl) (Nat.le_of_ble_eq_true rfl) (Nat.le_of_ble_eq_true rfl) (Nat.le_of_ble_eq_true rfl) (Nat.le_of_ble_eq_true rfl) (fun b9 => ⟨M, 4, 0, rfl, (by rw [cxW_0]; exact hX), (cpC_E (cpE_4 (by omega) (by omega)) (by decide)), by decide, Or.inr (Or.inr (Or.inr (Or.inl ⟨rfl, rfl⟩)))⟩)
      · skip
        have c5b : ((w 29 (a) ≠ -1)) := of_decide_eq_true c5
        refine z_aload_n C 20 3 dX0_copy_19 rfl rfl ?_
        refine x_isMany C hκ hT 23 hX (by omega) (by omega) q1674 dX0_copy_20 rfl ?_
        refine z_as (st' := [.int (iI (bI (decide (w 29 (b) ≠ -1))))]) rfl rfl rfl ?_
        refine z_ifB_ne C 34 26 dX0_copy_23 (by decide) rfl (fun c6 => ?_) (fun c6 => ?_)
        · skip
          have c6b : ((w 29 (b) ≠ -1)) := of_decide_eq_true c6
          refine z_aload_n C 35 1 dX0_copy_34 rfl rfl ?_
          have y7 : w 29 (a) ≠ -1 := (by omega)
          refine z_castS C hκ 38 (hX.many (by omega) (by omega) y7) rfl q1674 dX0_copy_35 rfl ?_
          refine z_getf C hκ (v := .ref (σ 32 (a))) 41 3 zk_X27 (hX.many (by omega) (by omega) y7) (by decide) q1882 (Or.inl rfl) rfl dX0_copy_38 rfl ?_
          refine z_astore (lv' := [(0, .ref (σ 0 (0))), (1, .ref (σ 30 (a))), (2, .int (iI (i))), (3, .ref (σ 30 (b))), (4, .int (iI (j))), (5, .int (iI (n))), (6, .ref (σ 10 (w 28 (a)))), (7, .ref (σ 10 (w 28 (b)))), (8, .ref (σ 32 (a)))]) C 43 [1, 2, 3, 4, 5, 6, 7, 8, 0] dX0_copy_41 (by decide) rfl rfl ?_
          refine z_aload_n C 44 3 dX0_copy_43 rfl rfl ?_
          have y8 : w 29 (b) ≠ -1 := (by omega)
          refine z_castS C hκ 47 (hX.many (by omega) (by omega) y8) rfl q1674 dX0_copy_44 rfl ?_
          refine z_getf C hκ (v := .ref (σ 32 (b))) 50 3 zk_X27 (hX.many (by omega) (by omega) y8) (by decide) q1882 (Or.inl rfl) rfl dX0_copy_47 rfl ?_
          refine z_astore (lv' := [(0, .ref (σ 0 (0))), (1, .ref (σ 30 (a))), (2, .int (iI (i))), (3, .ref (σ 30 (b))), (4, .int (iI (j))), (5, .int (iI (n))), (6, .ref (σ 10 (w 28 (a)))), (7, .ref (σ 10 (w 28 (b)))), (8, .ref (σ 32 (a))), (9, .ref (σ 32 (b)))]) C 52 [1, 2, 3, 4, 5, 6, 7, 8, 9, 0] dX0_copy_50 (by decide) rfl rfl ?_
          have h29a : w 29 a ≠ -1 := by omega
          obtain ⟨ea9, hea9, hra9⟩ := xM.itm hX (show 0 ≤ a by omega) ha.2 h29a
          have hxa9 := hS.X (show 0 ≤ a by omega) ha.2
          have hla9 := hxa9.2.1
          have hxxa9 := hxa9.1
          have ht0a9 := (hxa9.2.2 h29a).2
          have htta9 := (hS.T (t := w 28 a) (by omega) hxxa9.2).2.2.2.1
          have hela9 := it_f hV hw (x := a) ⟨by omega, ha.2⟩ h29a (by omega)
          have h29b : w 29 b ≠ -1 := by omega
          obtain ⟨eb9, heb9, hrb9⟩ := xM.itm hX (show 0 ≤ b by omega) hb.2 h29b
          have hxb9 := hS.X (show 0 ≤ b by omega) hb.2
          have hlb9 := hxb9.2.1
          have hxxb9 := hxb9.1
          have ht0b9 := (hxb9.2.2 h29b).2
          have httb9 := (hS.T (t := w 28 b) (by omega) hxxb9.2).2.2.2.1
          have helb9 := it_f hV hw (x := b) ⟨by omega, hb.2⟩ h29b (by omega)
          have hn19 : ¬ (a = -1 ∨ b = -1) := by omega
          have hn29 : ¬ (w 29 a = -1 ∨ w 29 b = -1) := by omega
          refine z_aload_n C 53 1 dX0_copy_52 rfl rfl ?_
          refine z_aload_n C 54 3 dX0_copy_53 rfl rfl ?_
          have c9i := xo_X hX (a := a) (b := b) (by omega) (by omega) (by omega) (by omega)
          refine z_acmp_eq C (xo σ 30 (a)) (xo σ 30 (b)) 73 57 dX0_copy_54 (by decide) rfl (by rw [xo_y (by omega)]; rfl) (by rw [xo_y (by omega)]; rfl) (fun c9 => ?_) (fun c9 => ?_)
          · skip
            have c9b : a = b := c9i.mp c9; clear c9i
            refine z_aload C 75 8 dX0_copy_73 rfl rfl ?_
            refine z_iload_n C 76 2 dX0_copy_75 rfl rfl ?_
            refine z_aload C 78 9 dX0_copy_76 rfl rfl ?_
            refine z_iload C 80 4 dX0_copy_78 rfl rfl ?_
            refine z_iload C 82 5 dX0_copy_80 rfl rfl ?_
            have hpa9 : a = b ∨ w 4 (w 28 a) < 8 ∨ w 4 (w 28 b) < 8 := by omega
            refine x_cpy (rest := []) C hκ hκl hT hZ hX hs 85 hea9 hra9 heb9 hrb9 (by omega) (by omega) (by omega) r_i r_j r_n (fun _ => hela9) (fun h8 r hr => ft8 (hela9 r hr).1 h8) (fun h9 h8 r hr h0 => (by have e9 : a = b := (by omega); rw [← e9]; exact hIt a r (by omega) ha.2 h29a (by omega) (by omega) h8 h0)) hTh zc_arraycopy dX0_copy_82 (Nat.le_of_ble_eq_true rfl) (Nat.le_of_ble_eq_true rfl) (Nat.le_of_ble_eq_true rfl) (Nat.le_of_ble_eq_true rfl) (Nat.le_of_ble_eq_true rfl) rfl (fun e9 k1 k2 k3 k4 k5 k6 hr9 => ?_) (fun k1 k2 b9 => ?_) (fun k1 k2 b9 => ?_)
            rotate_left 1
            · skip
              refine zx_out C hκ hT XX (fun z9 h9 => by cases h9) ⟨M, 4, 0, rfl, (by rw [cxW_0]; exact hX), (cpC_E (cpE_5 hn19 hn29 ⟨k1, k2⟩) (by decide)), by decide, Or.inr (Or.inr (Or.inr (Or.inl ⟨rfl, rfl⟩)))⟩ (Nat.le_of_ble_eq_true rfl) (Nat.le_of_ble_eq_true rfl)
            · skip
              refine zx_out C hκ hT XX (fun z9 h9 => by cases h9) ⟨M, 3, 0, rfl, (by rw [cxW_0]; exact hX), (cpC_E (cpE_3 hn19 hn29 (by omega) (by omega)) (by decide)), by decide, Or.inr (Or.inr (Or.inl ⟨rfl, rfl⟩))⟩ (Nat.le_of_ble_eq_true rfl) (Nat.le_of_ble_eq_true rfl)
            have hX9 := hX.cx hs (a := a) (i := i) (k := n.toNat) ⟨by omega, hb.2⟩ h29b ⟨k3, by omega⟩ (xRow_eq (w1 := w) (σ' := σ) rfl (fun q9 h9 => cx_cpy k2 k3 q9) (fun _ _ _ _ => rfl) hr9)
            refine z_as (st' := []) rfl rfl rfl ?_
            exact z_vret C dX0_copy_85 (Nat.le_of_ble_eq_true rfl) (Nat.le_of_ble_eq_true rfl) ⟨rfl, _, rfl, hX9, cpC_n (cpE_0 hn19 hn29 (by omega) (by omega)) (cpP_all hIt ⟨by omega, ha.2⟩ h29a k2 (by omega) (by omega))⟩
          · skip
            have c9b : ¬ (a = b) := fun h9 => c9 (c9i.mpr h9); clear c9i
            refine z_aload C 59 8 dX0_copy_57 rfl rfl ?_
            refine x_inTh (rest := []) C hκ hT 62 hea9 hra9 q1573 dX0_copy_59 rfl ?_
            refine z_as (st' := [.int (iI (bI (decide (8 ≤ w 4 (w 28 a)))))]) rfl rfl rfl ?_
            refine z_ifB_eq C 73 65 dX0_copy_62 (by decide) rfl (fun c10 => ?_) (fun c10 => ?_)
            · skip
              have c10b : ¬ ((8 ≤ w 4 (w 28 a))) := of_decide_eq_false c10
              refine z_aload C 75 8 dX0_copy_73 rfl rfl ?_
              refine z_iload_n C 76 2 dX0_copy_75 rfl rfl ?_
              refine z_aload C 78 9 dX0_copy_76 rfl rfl ?_
              refine z_iload C 80 4 dX0_copy_78 rfl rfl ?_
              refine z_iload C 82 5 dX0_copy_80 rfl rfl ?_
              have hpa9 : a = b ∨ w 4 (w 28 a) < 8 ∨ w 4 (w 28 b) < 8 := by omega
              refine x_cpy (rest := []) C hκ hκl hT hZ hX hs 85 hea9 hra9 heb9 hrb9 (by omega) (by omega) (by omega) r_i r_j r_n (fun _ => hela9) (fun h8 r hr => ft8 (hela9 r hr).1 h8) (fun h9 h8 r hr h0 => (by have e9 : a = b := (by omega); rw [← e9]; exact hIt a r (by omega) ha.2 h29a (by omega) (by omega) h8 h0)) hTh zc_arraycopy dX0_copy_82 (Nat.le_of_ble_eq_true rfl) (Nat.le_of_ble_eq_true rfl) (Nat.le_of_ble_eq_true rfl) (Nat.le_of_ble_eq_true rfl) (Nat.le_of_ble_eq_true rfl) rfl (fun e9 k1 k2 k3 k4 k5 k6 hr9 => ?_) (fun k1 k2 b9 => ?_) (fun k1 k2 b9 => ?_)
              rotate_left 1
              · skip
                refine zx_out C hκ hT XX (fun z9 h9 => by cases h9) ⟨M, 4, 0, rfl, (by rw [cxW_0]; exact hX), (cpC_E (cpE_5 hn19 hn29 ⟨k1, k2⟩) (by decide)), by decide, Or.inr (Or.inr (Or.inr (Or.inl ⟨rfl, rfl⟩)))⟩ (Nat.le_of_ble_eq_true rfl) (Nat.le_of_ble_eq_true rfl)
              · skip
                refine zx_out C hκ hT XX (fun z9 h9 => by cases h9) ⟨M, 3, 0, rfl, (by rw [cxW_0]; exact hX), (cpC_E (cpE_3 hn19 hn29 (by omega) (by omega)) (by decide)), by decide, Or.inr (Or.inr (Or.inl ⟨rfl, rfl⟩))⟩ (Nat.le_of_ble_eq_true rfl) (Nat.le_of_ble_eq_true rfl)
              have hX9 := hX.cx hs (a := a) (i := i) (k := n.toNat) ⟨by omega, hb.2⟩ h29b ⟨k3, by omega⟩ (xRow_eq (w1 := w) (σ' := σ) rfl (fun q9 h9 => cx_cpy k2 k3 q9) (fun _ _ _ _ => rfl) hr9)
              refine z_as (st' := []) rfl rfl rfl ?_
              exact z_vret C dX0_copy_85 (Nat.le_of_ble_eq_true rfl) (Nat.le_of_ble_eq_true rfl) ⟨rfl, _, rfl, hX9, cpC_n (cpE_0 hn19 hn29 (by omega) (by omega)) (cpP_all hIt ⟨by omega, ha.2⟩ h29a k2 (by omega) (by omega))⟩
            · skip
              have c10b : ((8 ≤ w 4 (w 28 a))) := of_decide_eq_true c10
              refine z_aload C 67 9 dX0_copy_65 rfl rfl ?_
              refine x_inTh (rest := []) C hκ hT 70 heb9 hrb9 q1573 dX0_copy_67 rfl ?_
              refine z_as (st' := [.int (iI (bI (decide (8 ≤ w 4 (w 28 b)))))]) rfl rfl rfl ?_
              refine z_ifB_ne C 86 73 dX0_copy_70 (by decide) rfl (fun c11 => ?_) (fun c11 => ?_)
              · skip
                have c11b : ((8 ≤ w 4 (w 28 b))) := of_decide_eq_true c11
                refine z_aload C 88 9 dX0_copy_86 rfl rfl ?_
                have h8a9 : 8 ≤ w 4 (w 28 a) := by omega
                have h8b9 : 8 ≤ w 4 (w 28 b) := by omega
                refine x_caTh (rest := []) C hκ hT 91 heb9 hrb9 h8b9 q1573 dX0_copy_88 rfl ?_
                refine z_astore (lv' := [(0, .ref (σ 0 (0))), (1, .ref (σ 30 (a))), (2, .int (iI (i))), (3, .ref (σ 30 (b))), (4, .int (iI (j))), (5, .int (iI (n))), (6, .ref (σ 10 (w 28 (a)))), (7, .ref (σ 10 (w 28 (b)))), (8, .ref (σ 32 (a))), (9, .ref (σ 32 (b))), (10, .ref (σ 32 (b)))]) C 93 [1, 2, 3, 4, 5, 6, 7, 8, 9, 10, 0] dX0_copy_91 (by decide) rfl rfl ?_
                refine z_aload C 95 10 dX0_copy_93 rfl rfl ?_
                obtain ⟨cB, xB, tB, tyB, hb19, hb29, hb39, hb49, hb59⟩ := xRow_ty hrb9
                refine z_alen C hκ 96 tB (hb19 ▸ heb9) hb29 dX0_copy_95 rfl ?_
                rw [hb39]
                refine z_as (st' := [.int (iI (((w 29 b).toNat : Int)))]) rfl rfl rfl ?_
                refine z_anew (rest := []) C hκ hT 99 (w 29 b).toNat 10 rfl rfl (by omega) q151 q152 (Nat.le_of_ble_eq_true rfl) (by dsimp only; omega) dX0_copy_96 rfl (fun tk tkM tkN => ?_)
                refine z_widen (n' := 1) (k' := 20) (Nat.le_refl _) (by omega) ?_
                have hfr9 : xFr σ w (xL w) tk := hX.fr tkM
                obtain ⟨M1, eM1⟩ : ∃ z9 : zMap, zup M tk (.inl (θ.2.1 10, (w 29 b).toNat, .inr (.inr (.inr (.inr (fun _ => none)))))) = z9 := ⟨_, rfl⟩
                rw [eM1]
                have hX8 : xM θ σ w (xL w) M1 := eM1 ▸ hX.up hfr9
                have htk8 : M1 tk = some (.inl (θ.2.1 10, (w 29 b).toNat, .inr (.inr (.inr (.inr (fun _ => none)))))) := eM1 ▸ zup_s
                have hne9 : σ 32 b ≠ tk := fun e => by rw [e, tkM] at heb9; cases heb9
                have hna9 : σ 32 a ≠ tk := fun e => by rw [e, tkM] at hea9; cases hea9
                have hea8 : M1 (σ 32 a) = some ea9 := eM1 ▸ (zup_n hna9).trans hea9
                have heb8 : M1 (σ 32 b) = some eb9 := eM1 ▸ (zup_n hne9).trans heb9
                have hrt8 : xRow θ σ w 8 (w 29 b).toNat (fun _ => -1) (.inl (θ.2.1 10, (w 29 b).toNat, .inr (.inr (.inr (.inr (fun _ => none)))))) := Or.inr (Or.inr (Or.inr (Or.inr ⟨by decide, _, rfl, fun _ _ => rfl⟩)))
                refine z_astore (lv' := [(0, .ref (σ 0 (0))), (1, .ref (σ 30 (a))), (2, .int (iI (i))), (3, .ref (σ 30 (b))), (4, .int (iI (j))), (5, .int (iI (n))), (6, .ref (σ 10 (w 28 (a)))), (7, .ref (σ 10 (w 28 (b)))), (8, .ref (σ 32 (a))), (9, .ref (σ 32 (b))), (10, .ref (σ 32 (b))), (11, .ref (tk))]) C 101 [1, 2, 3, 4, 5, 6, 7, 8, 9, 10, 11, 0] dX0_copy_99 (by decide) rfl rfl ?_
                refine z_aload C 103 8 dX0_copy_101 rfl rfl ?_
                refine z_iload_n C 104 2 dX0_copy_103 rfl rfl ?_
                refine z_aload C 106 11 dX0_copy_104 rfl rfl ?_
                refine z_iload C 108 4 dX0_copy_106 rfl rfl ?_
                refine z_iload C 110 5 dX0_copy_108 rfl rfl ?_
                refine x_cpy (rest := []) (tb := 8) (vb := fun _ => -1) C hκ hκl hT hZ hX8 hs 113 hea8 hra9 htk8 hrt8 (by omega) (by omega) (by omega) r_i r_j r_n (fun h8 => absurd h8 (by omega)) (fun h8 r hr => ft8 (hela9 r hr).1 h8) (fun h9 => absurd h9 (by decide)) hTh zc_arraycopy dX0_copy_110 (Nat.le_of_ble_eq_true rfl) (Nat.le_of_ble_eq_true rfl) (Nat.le_of_ble_eq_true rfl) (Nat.le_of_ble_eq_true rfl) (Nat.le_of_ble_eq_true rfl) rfl (fun e9 k1 k2 k3 k4 k5 k6 hr9 => ?_) (fun k1 k2 b9 => ?_) (fun k1 k2 b9 => ?_)
                rotate_left 1
                · exfalso; omega
                · skip
                  refine zx_out C hκ hT XX (fun z9 h9 => by cases h9) ⟨M1, 3, 0, rfl, (by rw [cxW_0]; exact hX8), (cpC_E (cpE_3 hn19 hn29 (by omega) (by omega)) (by decide)), by decide, Or.inr (Or.inr (Or.inl ⟨rfl, rfl⟩))⟩ (Nat.le_of_ble_eq_true rfl) (Nat.le_of_ble_eq_true rfl)
                obtain ⟨f9, ef9, hf9⟩ : ∃ f9 : Nat → Option Nat, e9 = .inl (xcA θ w 8, (w 29 b).toNat, xQ f9) ∧ ∀ q9, q9 < (w 29 b).toNat → f9 q9 = xo σ 30 (va_cpy (fun q : Nat => w 31 (20 * a + q)) (fun _ => -1) i.toNat j.toNat n.toNat q9) := by
                  rcases hr9 with ⟨g1, g2, _⟩ | ⟨g1, _⟩ | ⟨g1, _⟩ | ⟨g1, _⟩ | ⟨g1, g2, g3, g4⟩ <;> first | (exfalso; omega) | exact ⟨g2, g3, g4⟩
                subst ef9
                have hfr8 : xFr σ w (xL w) tk := hfr9
                obtain ⟨M2, eM2⟩ : ∃ z9 : zMap, zup M1 tk (.inl (xcA θ w 8, (w 29 b).toNat, xQ f9)) = z9 := ⟨_, rfl⟩
                rw [eM2]
                have hX7 : xM θ σ w (xL w) M2 := eM2 ▸ hX8.up hfr8
                have htk7 : M2 tk = some (.inl (θ.2.1 10, (w 29 b).toNat, xQ f9)) := eM2 ▸ zup_s
                have hE9 : cpE w a i b j n = 0 := cpE_0 hn19 hn29 (by omega) (by omega)
                refine z_iload C 115 4 dX0_copy_113 rfl rfl ?_
                refine z_istore (lv' := [(0, .ref (σ 0 (0))), (1, .ref (σ 30 (a))), (2, .int (iI (i))), (3, .ref (σ 30 (b))), (4, .int (iI (j))), (5, .int (iI (n))), (6, .ref (σ 10 (w 28 (a)))), (7, .ref (σ 10 (w 28 (b)))), (8, .ref (σ 32 (a))), (9, .ref (σ 32 (b))), (10, .ref (σ 32 (b))), (11, .ref (tk)), (12, .int (iI (j)))]) C 117 [1, 2, 3, 4, 5, 6, 7, 8, 9, 10, 11, 12, 0] dX0_copy_115 (by decide) rfl rfl ?_
                have L117_12 : ∀ (fu : Nat) (k : Nat) (M9 : zMap) (w9 : mW) (hk : (k : Int) ≤ n) (ew : w9 = cxW w a i b j k) (hX9 : xM θ σ w9 (xL w9) M9) (hw9 : mWF w9) (htk9 : M9 tk = some (.inl (θ.2.1 10, (w 29 b).toNat, xQ f9))) (hp : ∀ q : Nat, q < k → cpP w a i b q = false) (hme : n.toNat - k < fu), Z κ (zP θ M9 N) 1 20 117 [(0, .ref (σ 0 (0))), (1, .ref (σ 30 (a))), (2, .int (iI (i))), (3, .ref (σ 30 (b))), (4, .int (iI (j))), (5, .int (iI (n))), (6, .ref (σ 10 (w 28 (a)))), (7, .ref (σ 10 (w 28 (b)))), (8, .ref (σ 32 (a))), (9, .ref (σ 32 (b))), (10, .ref (σ 32 (b))), (11, .ref (tk)), (12, .int (iI (j + (k : Int))))] [] := by
                  intro fu
                  induction fu with
                  | zero => intro k M9 w9 hk ew hX9 hw9 htk9 hp hme; exact absurd hme (Nat.not_lt_zero _)
                  | succ fu ih13 =>
                    intro k M9 w9 hk ew hX9 hw9 htk9 hp hme
                    have hsv9 : sV w w9 := ew ▸ sV_cx
                    have hs9 := xS_V hsv9 hs
                    have hS9 := hs9.S
                    have k90 := hsv9 0 0 (by decide)
                    have k927 := hsv9 27 0 (by decide)
                    have k929 := hsv9 29 b (by decide)
                    have k928 := hsv9 28 b (by decide)
                    have k94 : ∀ t : Int, w9 4 t = w 4 t := fun t => hsv9 4 t (by decide)
                    have k9x : ∀ t : Int, w9 28 t = w 28 t := fun t => hsv9 28 t (by decide)
                    have k99 : ∀ t u : Int, isa w9 t u = isa w t u := fun t u => by unfold isa mb; rw [hsv9 8 _ (by decide)]
                    obtain ⟨zv9, ez9⟩ : ∃ zv9 : Int, w 31 (20 * a + i + k) = zv9 := ⟨_, rfl⟩
                    refine z_iload C 119 12 dX0_copy_117 rfl rfl ?_
                    refine z_iload C 121 4 dX0_copy_119 rfl rfl ?_
                    refine z_iload C 123 5 dX0_copy_121 rfl rfl ?_
                    refine z_iadd C 124 dX0_copy_123 rfl ?_
                    refine z_icmp_ge C 178 127 dX0_copy_124 (by decide) ⟨by omega, by omega⟩ ⟨by omega, by omega⟩ rfl (fun c14 => ?_) (fun c14 => ?_)
                    · skip
                      exact z_vret C dX0_copy_178 (Nat.le_of_ble_eq_true rfl) (Nat.le_of_ble_eq_true rfl) ⟨rfl, M9, rfl, (by have e9 : k = n.toNat := (by omega); rw [← e9, ← ew]; exact hX9), cpC_n hE9 (fun q h => hp q (by omega))⟩
                    · skip
                      have hkn9 : (k : Int) < n := by omega
                      have hzr9 : -1 ≤ zv9 ∧ zv9 < w 27 0 := by have h9 := ft8 (hela9 (i.toNat + k) (by omega)).1 h8a9; have e9 : 20 * a + ((i.toNat + k : Nat) : Int) = 20 * a + i + k := (by omega); simp only [e9, ez9] at h9; exact h9
                      have hcp9 := cpy_in (f := (fun q : Nat => w 31 (20 * a + q))) (g := fun _ => -1) (sp := i.toNat) (dp := j.toNat) (n := n.toNat) (j := (j + (k : Int)).toNat) ⟨by omega, by omega⟩
                      have hix9 : 20 * a + ((i.toNat + ((j + (k : Int)).toNat - j.toNat) : Nat) : Int) = 20 * a + i + k := by omega
                      have hlt9 : (j + (k : Int)).toNat < (w 29 b).toNat := by omega
                      have hA3 : 0 ≤ j + (k : Int) := by omega
                      have hA4 : j + (k : Int) < ((w 29 b).toNat : Int) := by omega
                      have hA5 : (w 29 b).toNat ≤ 2147483647 := by omega
                      have e4b9 : w9 4 (w9 28 b) = w 4 (w 28 b) := by rw [k9x, k94]
                      have hA1 : 8 ≤ w9 4 (w9 28 b) ∧ w9 4 (w9 28 b) < w9 0 0 := by omega
                      have hA2 : -1 ≤ zv9 ∧ zv9 < w9 27 0 := by omega
                      have hA4b : j + (k : Int) < ((w9 29 b).toNat : Int) := by omega
                      have hA5b : (w9 29 b).toNat ≤ 1000 := by omega
                      have hA6 : 0 ≤ b ∧ b < w9 27 0 := by omega
                      have hA7 : w9 29 b ≠ -1 := by omega
                      have hA8 : 0 ≤ j + (k : Int) ∧ j + (k : Int) < w9 29 b := by omega
                      have hA9 : inL zv9 := ⟨by omega, by omega⟩
                      have hA10 : ((k + 1 : Nat) : Int) ≤ n := by omega
                      have hA11 : n.toNat - (k + 1) < fu := by omega
                      have hA12 : inR (j + (k : Int)) := ⟨by omega, by omega⟩
                      have hA13 : k < n.toNat := by omega
                      have hfz9 : f9 (j + (k : Int)).toNat = xo σ 30 zv9 := by rw [hf9 _ hlt9, hcp9]; show xo σ 30 (w 31 (20 * a + ((i.toNat + ((j + (k : Int)).toNat - j.toNat) : Nat) : Int))) = _; rw [hix9, ez9]
                      refine z_aload C 129 11 dX0_copy_127 rfl rfl ?_
                      refine z_iload C 131 12 dX0_copy_129 rfl rfl ?_
                      refine z_qald (rest := []) C hκ 132 10 htk9 rfl hA3 hA4 hA5 (congrArg va_rf hfz9) dX0_copy_131 rfl ?_
                      refine z_as (st' := [va_rf (xo σ 30 (zv9))]) rfl rfl rfl ?_
                      rcases Int.lt_or_le (zv9) 0 with n15 | n15
                      · skip
                        rw [xo_n n15]
                        refine z_as (st' := [.null]) (lv' := [(0, .ref (σ 0 (0))), (1, .ref (σ 30 (a))), (2, .int (iI (i))), (3, .ref (σ 30 (b))), (4, .int (iI (j))), (5, .int (iI (n))), (6, .ref (σ 10 (w 28 (a)))), (7, .ref (σ 10 (w 28 (b)))), (8, .ref (σ 32 (a))), (9, .ref (σ 32 (b))), (10, .ref (σ 32 (b))), (11, .ref (tk)), (12, .int (iI (j + (k : Int))))]) rfl rfl rfl ?_
                        refine z_ifnullN C 162 dX0_copy_132 (by decide) ?_
                        refine z_aload C 164 10 dX0_copy_162 rfl rfl ?_
                        refine z_iload C 166 12 dX0_copy_164 rfl rfl ?_
                        refine z_aload C 168 11 dX0_copy_166 rfl rfl ?_
                        refine z_iload C 170 12 dX0_copy_168 rfl rfl ?_
                        refine z_qald (rest := [.int (iI (j + (k : Int))), .ref (σ 32 (b))]) C hκ 171 10 htk9 rfl hA3 hA4 hA5 (congrArg va_rf hfz9) dX0_copy_170 rfl ?_
                        refine z_as (st' := [va_rf (xo σ 30 (zv9)), .int (iI (j + (k : Int))), .ref (σ 32 (b))]) rfl rfl rfl ?_
                        have hnp9 : cpP w a i b k = false := cpP_n (fun h0 => by rw [ez9] at h0; omega)
                        obtain ⟨eb7, heb7, hrb7⟩ := xM.itm hX9 hA6.1 hA6.2 hA7
                        obtain ⟨g7, eg7, hg7⟩ := xRow_q hA1.1 hrb7
                        subst eg7
                        have hTh9 : ∀ x9 : Int, 0 ≤ x9 → x9 < w9 27 0 → w9 29 x9 = -1 → w9 1 (w9 28 x9) ≠ 4 := fun x9 u1 u2 u3 => by rw [hsv9 1 _ (by decide), k9x]; rw [hsv9 29 _ (by decide)] at u3; exact hTh x9 u1 (k927 ▸ u2) u3
                        refine x_aast (rest := []) (z := zv9) C hκ hκl hT hZ hX9 hs9 172 heb7 hA1.1 hA1.2 hA2 hTh9 hA3 hA4b hA5b dX0_copy_171 (Nat.le_of_ble_eq_true rfl) (Nat.le_of_ble_eq_true rfl) (Nat.le_of_ble_eq_true rfl) (Nat.le_of_ble_eq_true rfl) (Nat.le_of_ble_eq_true rfl) rfl ?_ (fun c9 d9 b9 => ?_)
                        rotate_left 1
                        · exfalso; omega
                        have hX6 := hX9.s31 hs9 (x := b) (i := j + (k : Int)) (v := zv9) hA6 hA7 hA8 (xRow_up (w := w9) hA1.1 hA3 hg7)
                        have hw6 : mWF (mset w9 31 (20 * b + (j + (k : Int))) zv9) := hw9.setL hA9 rfl rfl
                        have ew6 : mset w9 31 (20 * b + (j + (k : Int))) zv9 = cxW w a i b j (k + 1) := by rw [ew, ← ez9]; exact cxW_s
                        have htk6 := (zup_n (e := (.inl (xcA θ w9 (w9 4 (w9 28 b)), (w9 29 b).toNat, xQ (va_up g7 (j + (k : Int)).toNat (xo σ 30 zv9))))) hne9.symm).trans htk9
                        obtain ⟨M3, eM3⟩ : ∃ z9 : zMap, zup M9 (σ 32 b) (.inl (xcA θ w9 (w9 4 (w9 28 b)), (w9 29 b).toNat, xQ (va_up g7 (j + (k : Int)).toNat (xo σ 30 zv9)))) = z9 := ⟨_, rfl⟩
                        rw [eM3]
                        rw [eM3] at hX6 htk6
                        refine z_iinc (lv' := [(0, .ref (σ 0 (0))), (1, .ref (σ 30 (a))), (2, .int (iI (i))), (3, .ref (σ 30 (b))), (4, .int (iI (j))), (5, .int (iI (n))), (6, .ref (σ 10 (w 28 (a)))), (7, .ref (σ 10 (w 28 (b)))), (8, .ref (σ 32 (a))), (9, .ref (σ 32 (b))), (10, .ref (σ 32 (b))), (11, .ref (tk)), (12, .int (iI ((j + (k : Int)) + 1)))]) C 175 12 [1, 2, 3, 4, 5, 6, 7, 8, 9, 10, 11, 12, 0] dX0_copy_172 rfl (by decide) rfl rfl ?_
                        refine z_goto C 117 dX0_copy_175 (by decide) ?_
                        refine z_as (lv' := [(0, .ref (σ 0 (0))), (1, .ref (σ 30 (a))), (2, .int (iI (i))), (3, .ref (σ 30 (b))), (4, .int (iI (j))), (5, .int (iI (n))), (6, .ref (σ 10 (w 28 (a)))), (7, .ref (σ 10 (w 28 (b)))), (8, .ref (σ 32 (a))), (9, .ref (σ 32 (b))), (10, .ref (σ 32 (b))), (11, .ref (tk)), (12, .int (iI (j + ((k + 1) : Int))))]) rfl (congrArg (fun z9 => ([(0, .ref (σ 0 (0))), (1, .ref (σ 30 (a))), (2, .int (iI (i))), (3, .ref (σ 30 (b))), (4, .int (iI (j))), (5, .int (iI (n))), (6, .ref (σ 10 (w 28 (a)))), (7, .ref (σ 10 (w 28 (b)))), (8, .ref (σ 32 (a))), (9, .ref (σ 32 (b))), (10, .ref (σ 32 (b))), (11, .ref (tk)), (12, .int (iI (z9)))] : List (Nat × Value))) (show ((j + (k : Int)) + 1) = (j + ((k + 1) : Int)) from Int.add_assoc _ _ _)) rfl ?_
                        exact ih13 (k + 1) (M3) (mset w9 31 (20 * b + (j + (k : Int))) zv9) hA10 ew6 hX6 hw6 htk6 (fun q h => (Nat.lt_succ_iff_lt_or_eq.mp h).elim (hp q) (fun e => e ▸ hnp9)) hA11
                      · skip
                        rw [xo_y n15]
                        refine z_as (st' := [.ref (σ 30 (zv9))]) (lv' := [(0, .ref (σ 0 (0))), (1, .ref (σ 30 (a))), (2, .int (iI (i))), (3, .ref (σ 30 (b))), (4, .int (iI (j))), (5, .int (iI (n))), (6, .ref (σ 10 (w 28 (a)))), (7, .ref (σ 10 (w 28 (b)))), (8, .ref (σ 32 (a))), (9, .ref (σ 32 (b))), (10, .ref (σ 32 (b))), (11, .ref (tk)), (12, .int (iI (j + (k : Int))))]) rfl rfl rfl ?_
                        refine z_ifnull C 135 dX0_copy_132 rfl ?_
                        refine z_aload C 137 11 dX0_copy_135 rfl rfl ?_
                        refine z_iload C 139 12 dX0_copy_137 rfl rfl ?_
                        refine z_qald (rest := []) C hκ 140 10 htk9 rfl hA3 hA4 hA5 (congrArg va_rf hfz9) dX0_copy_139 rfl ?_
                        refine z_as (st' := [va_rf (xo σ 30 (zv9))]) rfl rfl rfl ?_
                        have hz09 : 0 ≤ zv9 := by omega
                        rw [xo_y hz09]
                        refine z_as (st' := [.ref (σ 30 (zv9))]) (lv' := [(0, .ref (σ 0 (0))), (1, .ref (σ 30 (a))), (2, .int (iI (i))), (3, .ref (σ 30 (b))), (4, .int (iI (j))), (5, .int (iI (n))), (6, .ref (σ 10 (w 28 (a)))), (7, .ref (σ 10 (w 28 (b)))), (8, .ref (σ 32 (a))), (9, .ref (σ 32 (b))), (10, .ref (σ 32 (b))), (11, .ref (tk)), (12, .int (iI (j + (k : Int))))]) rfl rfl rfl ?_
                        have hgx9 := hS9.X (x := zv9) (by omega) (by omega)
                        have hgx19 := hgx9.1
                        have hb128 : 0 ≤ w9 28 b ∧ w9 28 b < w9 0 0 := by omega
                        have hb9r : 0 ≤ w 28 b ∧ w 28 b < w9 0 0 := by omega
                        obtain ⟨f16a, f16b, f16c⟩ := hS9.X (show 0 ≤ zv9 by omega) (by omega)
                        refine x_pget (v := .ref (σ 10 (w9 28 (zv9)))) C hκ 143 1 hX9 (by omega) (by omega) (by decide) rfl q1274 (Or.inl rfl) rfl dX0_copy_140 rfl ?_
                        refine z_aload C 145 7 dX0_copy_143 rfl rfl ?_
                        obtain ⟨f17a, f17b, f17c, f17d, f17e, f17f, f17g, f17h⟩ := hS9.T (show 0 ≤ w 28 (b) by omega) (by omega)
                        obtain ⟨f17i, f17j, f17k, f17l⟩ := hs9.ty (show 0 ≤ w 28 (b) by omega) (by omega)
                        refine xv_of (rest := [.ref (σ 10 (w9 28 (zv9)))]) C hκ hκl hX9 hs9 hw9 hT (w 28 (b))   ⟨(by omega), (by omega)⟩  148 dX0_copy_145 q532 (Nat.le_of_ble_eq_true rfl) (Nat.le_of_ble_eq_true rfl) (Nat.le_of_ble_eq_true rfl) (Nat.le_of_ble_eq_true rfl) (Nat.le_of_ble_eq_true rfl) rfl ?_
                        refine z_as (st' := [va_rf (xo σ 10 (w9 4 (w 28 (b)))), .ref (σ 10 (w9 28 (zv9)))]) rfl rfl rfl ?_
                        have h4b9 : 0 ≤ w9 4 (w 28 b) ∧ w9 4 (w 28 b) < w9 0 0 := by rw [k94]; omega
                        have y18 : 0 ≤ w9 4 (w 28 (b)) := (by omega)
                        rw [xo_y y18]
                        refine z_as (st' := [.ref (σ 10 (w9 4 (w 28 (b)))), .ref (σ 10 (w9 28 (zv9)))]) (lv' := [(0, .ref (σ 0 (0))), (1, .ref (σ 30 (a))), (2, .int (iI (i))), (3, .ref (σ 30 (b))), (4, .int (iI (j))), (5, .int (iI (n))), (6, .ref (σ 10 (w 28 (a)))), (7, .ref (σ 10 (w 28 (b)))), (8, .ref (σ 32 (a))), (9, .ref (σ 32 (b))), (10, .ref (σ 32 (b))), (11, .ref (tk)), (12, .int (iI (j + (k : Int))))]) rfl rfl rfl ?_
                        obtain ⟨f19a, f19b, f19c, f19d, f19e, f19f, f19g, f19h⟩ := hS9.T (show 0 ≤ w9 28 (zv9) by omega) (by omega)
                        obtain ⟨f19i, f19j, f19k, f19l⟩ := hs9.ty (show 0 ≤ w9 28 (zv9) by omega) (by omega)
                        obtain ⟨f20a, f20b, f20c, f20d, f20e, f20f, f20g, f20h⟩ := hS9.T (show 0 ≤ w9 4 (w 28 (b)) by omega) (by omega)
                        obtain ⟨f20i, f20j, f20k, f20l⟩ := hs9.ty (show 0 ≤ w9 4 (w 28 (b)) by omega) (by omega)
                        refine xv_is (rest := []) C hκ hκl hX9 hs9 hw9 hT (w9 28 (zv9)) (w9 4 (w 28 (b))) ⟨(by omega), (by omega)⟩ ⟨(by omega), (by omega)⟩ 151 dX0_copy_148 q557 (Nat.le_of_ble_eq_true rfl) (Nat.le_of_ble_eq_true rfl) (Nat.le_of_ble_eq_true rfl) (Nat.le_of_ble_eq_true rfl) (Nat.le_of_ble_eq_true rfl) rfl ?_
                        refine z_as (st' := [.int (iI (bI (giB w9 (w9 28 (zv9)) (w9 4 (w 28 (b))))))]) rfl rfl rfl ?_
                        have hgi9 : giB w9 (w9 28 zv9) (w9 4 (w 28 b)) = isa w (w 28 zv9) (w 4 (w 28 b)) := by rw [gi_isa (by omega) (by rw [k94]; omega), k99, k9x, k94]
                        refine z_ifB_ne C 162 154 dX0_copy_151 (by decide) rfl (fun c21 => ?_) (fun c21 => ?_)
                        · skip
                          refine z_aload C 164 10 dX0_copy_162 rfl rfl ?_
                          refine z_iload C 166 12 dX0_copy_164 rfl rfl ?_
                          refine z_aload C 168 11 dX0_copy_166 rfl rfl ?_
                          refine z_iload C 170 12 dX0_copy_168 rfl rfl ?_
                          refine z_qald (rest := [.int (iI (j + (k : Int))), .ref (σ 32 (b))]) C hκ 171 10 htk9 rfl hA3 hA4 hA5 (congrArg va_rf hfz9) dX0_copy_170 rfl ?_
                          refine z_as (st' := [va_rf (xo σ 30 (zv9)), .int (iI (j + (k : Int))), .ref (σ 32 (b))]) rfl rfl rfl ?_
                          have hnp9 : cpP w a i b k = false := cpP_n (fun h0 => by rw [ez9, ← hgi9]; exact c21)
                          obtain ⟨eb7, heb7, hrb7⟩ := xM.itm hX9 hA6.1 hA6.2 hA7
                          obtain ⟨g7, eg7, hg7⟩ := xRow_q hA1.1 hrb7
                          subst eg7
                          have hTh9 : ∀ x9 : Int, 0 ≤ x9 → x9 < w9 27 0 → w9 29 x9 = -1 → w9 1 (w9 28 x9) ≠ 4 := fun x9 u1 u2 u3 => by rw [hsv9 1 _ (by decide), k9x]; rw [hsv9 29 _ (by decide)] at u3; exact hTh x9 u1 (k927 ▸ u2) u3
                          refine x_aast (rest := []) (z := zv9) C hκ hκl hT hZ hX9 hs9 172 heb7 hA1.1 hA1.2 hA2 hTh9 hA3 hA4b hA5b dX0_copy_171 (Nat.le_of_ble_eq_true rfl) (Nat.le_of_ble_eq_true rfl) (Nat.le_of_ble_eq_true rfl) (Nat.le_of_ble_eq_true rfl) (Nat.le_of_ble_eq_true rfl) rfl ?_ (fun c9 d9 b9 => ?_)
                          rotate_left 1
                          · exfalso; rw [k99, k9x, e4b9, ← hgi9, c21] at d9; cases d9
                          have hX6 := hX9.s31 hs9 (x := b) (i := j + (k : Int)) (v := zv9) hA6 hA7 hA8 (xRow_up (w := w9) hA1.1 hA3 hg7)
                          have hw6 : mWF (mset w9 31 (20 * b + (j + (k : Int))) zv9) := hw9.setL hA9 rfl rfl
                          have ew6 : mset w9 31 (20 * b + (j + (k : Int))) zv9 = cxW w a i b j (k + 1) := by rw [ew, ← ez9]; exact cxW_s
                          have htk6 := (zup_n (e := (.inl (xcA θ w9 (w9 4 (w9 28 b)), (w9 29 b).toNat, xQ (va_up g7 (j + (k : Int)).toNat (xo σ 30 zv9))))) hne9.symm).trans htk9
                          obtain ⟨M4, eM4⟩ : ∃ z9 : zMap, zup M9 (σ 32 b) (.inl (xcA θ w9 (w9 4 (w9 28 b)), (w9 29 b).toNat, xQ (va_up g7 (j + (k : Int)).toNat (xo σ 30 zv9)))) = z9 := ⟨_, rfl⟩
                          rw [eM4]
                          rw [eM4] at hX6 htk6
                          refine z_iinc (lv' := [(0, .ref (σ 0 (0))), (1, .ref (σ 30 (a))), (2, .int (iI (i))), (3, .ref (σ 30 (b))), (4, .int (iI (j))), (5, .int (iI (n))), (6, .ref (σ 10 (w 28 (a)))), (7, .ref (σ 10 (w 28 (b)))), (8, .ref (σ 32 (a))), (9, .ref (σ 32 (b))), (10, .ref (σ 32 (b))), (11, .ref (tk)), (12, .int (iI ((j + (k : Int)) + 1)))]) C 175 12 [1, 2, 3, 4, 5, 6, 7, 8, 9, 10, 11, 12, 0] dX0_copy_172 rfl (by decide) rfl rfl ?_
                          refine z_goto C 117 dX0_copy_175 (by decide) ?_
                          refine z_as (lv' := [(0, .ref (σ 0 (0))), (1, .ref (σ 30 (a))), (2, .int (iI (i))), (3, .ref (σ 30 (b))), (4, .int (iI (j))), (5, .int (iI (n))), (6, .ref (σ 10 (w 28 (a)))), (7, .ref (σ 10 (w 28 (b)))), (8, .ref (σ 32 (a))), (9, .ref (σ 32 (b))), (10, .ref (σ 32 (b))), (11, .ref (tk)), (12, .int (iI (j + ((k + 1) : Int))))]) rfl (congrArg (fun z9 => ([(0, .ref (σ 0 (0))), (1, .ref (σ 30 (a))), (2, .int (iI (i))), (3, .ref (σ 30 (b))), (4, .int (iI (j))), (5, .int (iI (n))), (6, .ref (σ 10 (w 28 (a)))), (7, .ref (σ 10 (w 28 (b)))), (8, .ref (σ 32 (a))), (9, .ref (σ 32 (b))), (10, .ref (σ 32 (b))), (11, .ref (tk)), (12, .int (iI (z9)))] : List (Nat × Value))) (show ((j + (k : Int)) + 1) = (j + ((k + 1) : Int)) from Int.add_assoc _ _ _)) rfl ?_
                          exact ih13 (k + 1) (M4) (mset w9 31 (20 * b + (j + (k : Int))) zv9) hA10 ew6 hX6 hw6 htk6 (fun q h => (Nat.lt_succ_iff_lt_or_eq.mp h).elim (hp q) (fun e => e ▸ hnp9)) hA11
                        · skip
                          exact zx_throwS (hh := []) C hκ hκl hT hZ XX dX0_copy_154 dX0_copy_157 dX0_copy_158 dX0_copy_161 (Nat.le_of_ble_eq_true rfl) (Nat.le_of_ble_eq_true rfl) (Nat.le_of_ble_eq_true rfl) (Nat.le_of_ble_eq_true rfl) (Nat.le_of_ble_eq_true rfl) (fun b9 => ⟨M9, 4, k, rfl, (ew ▸ hX9), (cpC_k hE9 hA13 (cpP_y h8b9 (by rw [ez9]; exact hz09) (by rw [ez9, ← hgi9]; exact c21)) hp), by decide, Or.inr (Or.inr (Or.inr (Or.inl ⟨rfl, rfl⟩)))⟩)
                refine z_as (lv' := [(0, .ref (σ 0 (0))), (1, .ref (σ 30 (a))), (2, .int (iI (i))), (3, .ref (σ 30 (b))), (4, .int (iI (j))), (5, .int (iI (n))), (6, .ref (σ 10 (w 28 (a)))), (7, .ref (σ 10 (w 28 (b)))), (8, .ref (σ 32 (a))), (9, .ref (σ 32 (b))), (10, .ref (σ 32 (b))), (11, .ref (tk)), (12, .int (iI (j + ((0) : Int))))]) rfl (congrArg (fun z9 => ([(0, .ref (σ 0 (0))), (1, .ref (σ 30 (a))), (2, .int (iI (i))), (3, .ref (σ 30 (b))), (4, .int (iI (j))), (5, .int (iI (n))), (6, .ref (σ 10 (w 28 (a)))), (7, .ref (σ 10 (w 28 (b)))), (8, .ref (σ 32 (a))), (9, .ref (σ 32 (b))), (10, .ref (σ 32 (b))), (11, .ref (tk)), (12, .int (iI (z9)))] : List (Nat × Value))) (show (j) = (j + ((0) : Int)) from by omega)) rfl ?_
                exact L117_12 _ (0) (M2) (w) (by omega) cxW_0.symm hX7 hw htk7 (fun q h => absurd h (Nat.not_lt_zero _)) (Nat.lt_succ_self _)
              · skip
                have c11b : ¬ ((8 ≤ w 4 (w 28 b))) := of_decide_eq_false c11
                refine z_aload C 75 8 dX0_copy_73 rfl rfl ?_
                refine z_iload_n C 76 2 dX0_copy_75 rfl rfl ?_
                refine z_aload C 78 9 dX0_copy_76 rfl rfl ?_
                refine z_iload C 80 4 dX0_copy_78 rfl rfl ?_
                refine z_iload C 82 5 dX0_copy_80 rfl rfl ?_
                have hpa9 : a = b ∨ w 4 (w 28 a) < 8 ∨ w 4 (w 28 b) < 8 := by omega
                refine x_cpy (rest := []) C hκ hκl hT hZ hX hs 85 hea9 hra9 heb9 hrb9 (by omega) (by omega) (by omega) r_i r_j r_n (fun _ => hela9) (fun h8 r hr => ft8 (hela9 r hr).1 h8) (fun h9 h8 r hr h0 => (by have e9 : a = b := (by omega); rw [← e9]; exact hIt a r (by omega) ha.2 h29a (by omega) (by omega) h8 h0)) hTh zc_arraycopy dX0_copy_82 (Nat.le_of_ble_eq_true rfl) (Nat.le_of_ble_eq_true rfl) (Nat.le_of_ble_eq_true rfl) (Nat.le_of_ble_eq_true rfl) (Nat.le_of_ble_eq_true rfl) rfl (fun e9 k1 k2 k3 k4 k5 k6 hr9 => ?_) (fun k1 k2 b9 => ?_) (fun k1 k2 b9 => ?_)
                rotate_left 1
                · skip
                  refine zx_out C hκ hT XX (fun z9 h9 => by cases h9) ⟨M, 4, 0, rfl, (by rw [cxW_0]; exact hX), (cpC_E (cpE_5 hn19 hn29 ⟨k1, k2⟩) (by decide)), by decide, Or.inr (Or.inr (Or.inr (Or.inl ⟨rfl, rfl⟩)))⟩ (Nat.le_of_ble_eq_true rfl) (Nat.le_of_ble_eq_true rfl)
                · skip
                  refine zx_out C hκ hT XX (fun z9 h9 => by cases h9) ⟨M, 3, 0, rfl, (by rw [cxW_0]; exact hX), (cpC_E (cpE_3 hn19 hn29 (by omega) (by omega)) (by decide)), by decide, Or.inr (Or.inr (Or.inl ⟨rfl, rfl⟩))⟩ (Nat.le_of_ble_eq_true rfl) (Nat.le_of_ble_eq_true rfl)
                have hX9 := hX.cx hs (a := a) (i := i) (k := n.toNat) ⟨by omega, hb.2⟩ h29b ⟨k3, by omega⟩ (xRow_eq (w1 := w) (σ' := σ) rfl (fun q9 h9 => cx_cpy k2 k3 q9) (fun _ _ _ _ => rfl) hr9)
                refine z_as (st' := []) rfl rfl rfl ?_
                exact z_vret C dX0_copy_85 (Nat.le_of_ble_eq_true rfl) (Nat.le_of_ble_eq_true rfl) ⟨rfl, _, rfl, hX9, cpC_n (cpE_0 hn19 hn29 (by omega) (by omega)) (cpP_all hIt ⟨by omega, ha.2⟩ h29a k2 (by omega) (by omega))⟩
        · skip
          have c6b : ¬ ((w 29 (b) ≠ -1)) := of_decide_eq_false c6
          exact zx_throwS (hh := []) C hκ hκl hT hZ XX dX0_copy_26 dX0_copy_29 dX0_copy_30 dX0_copy_33 (Nat.le_of_ble_eq_true rfl) (Nat.le_of_ble_eq_true rfl) (Nat.le_of_ble_eq_true rfl) (Nat.le_of_ble_eq_true rfl) (Nat.le_of_ble_eq_true rfl) (fun b9 => ⟨M, 4, 0, rfl, (by rw [cxW_0]; exact hX), (cpC_E (cpE_4 (by omega) (by omega)) (by decide)), by decide, Or.inr (Or.inr (Or.inr (Or.inl ⟨rfl, rfl⟩)))⟩)
