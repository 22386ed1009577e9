theorem rg_nil {T : Int} : rgL T [] := ⟨List.nodup_nil, fun x h => by simp at h⟩
theorem adL_nil {t : Int} : adL [] t = [t] := by unfold adL; rw [if_neg (by simp)]; rfl
theorem rg_one {T t : Int} (h : 0 ≤ t ∧ t < T) : rgL T (adL [] t) := adL_rg rg_nil h
theorem fac_rg {w : mW} {Lf : Int → List Int} {t T : Int} {L : List Int} (hL : rgL T L) (hf : ∀ j : Int, 0 ≤ j → j < w 6 t → rgL T (Lf (w 7 (3 * t + j)))) : ∀ k : Nat, (k : Int) ≤ w 6 t → rgL T (facS w Lf t L k)
  | 0, _ => hL
  | k + 1, h => by simp only [facS]; exact adA_rg (hf k (by omega) (by omega)).2 (fac_rg hL hf k (by omega))
/-- those above a type, from those above the types below it -/
def clL (w : mW) (Lf : Int → List Int) (t : Int) : List Int := if t < 8 then [t] else ancS w Lf t
theorem fac_sub {w : mW} {Lf : Int → List Int} {t x : Int} {L : List Int} (h : x ∈ L) : ∀ k : Nat, x ∈ facS w Lf t L k
  | 0 => h
  | k + 1 => by simp only [facS]; rw [mem_adA]; exact Or.inl (fac_sub h k)
theorem clL_p {w : mW} {Lf : Int → List Int} {t : Int} (h : t < 8) : adL [] t = clL w Lf t := by unfold clL; rw [if_pos h, adL_nil]
theorem clL_f {w : mW} {Lf : Int → List Int} {t : Int} (h : 8 ≤ t) (hc : clT w t = false) : adL (facS w Lf t (adL [] t) (w 6 t).toNat) 8 = clL w Lf t := by
  unfold clL ancS ancS1; rw [if_neg (by omega), if_neg (by omega), adL_nil, hc]; simp
theorem clL_r {w : mW} {Lf : Int → List Int} {t : Int} (h : 8 ≤ t) (hc : clT w t = false) (h6 : w 6 t = 0) : adL (adL [] t) 8 = clL w Lf t := by
  rw [← clL_f h hc, h6]; rfl
theorem clL_c {w : mW} {Lf : Int → List Int} {t : Int} (hs : xS w) (h : 8 ≤ t) (h1 : t < w 0 0) (hc : clT w t = true) (h8 : ∀ x : Int, 8 ≤ x → x < t → 8 ∈ Lf x) : facS w Lf t (if 0 ≤ w 2 t then adA (adL [] t) true (Lf (w 2 t)) else adL [] t) (w 6 t).toNat = clL w Lf t := by
  have hb := (hs.BT t (by omega) h1)
  have e : ancS1 w Lf t = (if 0 ≤ w 2 t then adA (adL [] t) true (Lf (w 2 t)) else adL [] t) := by
    unfold ancS1
    by_cases e8 : t = 8
    · subst e8; rw [if_neg (by simp), if_neg (by rw [hs.r8.2]; decide), adL_nil]
    · have := hb.2.1 hc e8
      rw [if_pos (by simp [hc, e8]), if_pos (by omega), adL_nil]
  have e3 : clL w Lf t = adL (facS w Lf t (ancS1 w Lf t) (w 6 t).toNat) 8 := by unfold clL ancS; rw [if_neg (by omega), if_neg (by omega)]
  have m8 : (8 : Int) ∈ (if 0 ≤ w 2 t then adA (adL [] t) true (Lf (w 2 t)) else adL [] t) := by
    by_cases e8 : t = 8
    · subst e8; rw [if_neg (by rw [hs.r8.2]; decide), adL_nil]; simp
    · have := hb.2.1 hc e8
      rw [if_pos (by omega), mem_adA]; exact Or.inr ⟨h8 _ this hb.1.2, Or.inl rfl⟩
  rw [e3, e]
  exact (if_pos (fac_sub m8 _)).symm

set_option maxRecDepth 100000 in
theorem k2_climb {l : Launch} {θ : zTh} {σ : xA} {w : mW} {Lf : Int → List Int} {M N : zMap} (hX : xM θ σ w (Lf) M) (hs : xS w) (hw : mWF w) (hT : zTb θ) (t : Int) (rt : Int)  (ht : 0 ≤ t ∧ t < w 0 0) (hno : ∀ x : Int, 0 ≤ x → x < w 27 0 → w 28 x ≠ t) : ZM θ l yX2_climb cX2_climb 2 none ⟨1, 0, 0, 21⟩ [.ref (σ 10 (t)), .ref (σ 10 (rt))] (zP θ M N) (xLs θ σ w N (lUp Lf t (adL [] t))) := by
  refine z_start (own := RX2) (nm := "climb") pnX2 rfl rfl (Nat.le_of_ble_eq_true rfl) ?_
  intro κ hκ hκl C
  change Z κ (zP θ M N) 0 0 0 [(0, .ref (σ 10 (t))), (1, .ref (σ 10 (rt)))] []
  have hS := hs.S
  have hB := hS.B
  obtain ⟨hB1, hB2, hB3, hB4, hB5, hB6⟩ := hS.B
  have hC := hS.C
  obtain ⟨h81, h82⟩ := hs.r8
  refine z_aload_n C 1 0 dX2_climb_0 rfl rfl ?_
  refine xr_clear (rest := []) (As := []) C hκ hκl hs (t) ⟨by omega, by omega⟩ (hX.ty (by omega) (by omega)) 4 (k2_clear hX hs hw hT (t) ⟨by omega, by omega⟩ hno) dX2_climb_1 q275 (zNd_of znX2_clear) (Nat.le_of_ble_eq_true rfl) (Nat.le_of_ble_eq_true rfl) (Nat.le_of_ble_eq_true rfl) (Nat.le_of_ble_eq_true rfl) rfl (Nat.le_of_ble_eq_true rfl) rfl (fun v9 Q9 h9 => ?_)
  obtain ⟨rfl, Mr1, rfl, hXr1⟩ := h9
  refine z_as (Pic' := zP θ Mr1 N) (st' := []) rfl rfl rfl ?_
  refine z_aload_n C 5 0 dX2_climb_4 rfl rfl ?_
  refine z_aload_n C 6 0 dX2_climb_5 rfl rfl ?_
  refine xr_add (rest := []) (As := [.ref (σ 10 (t))]) C hκ hκl hs (t) ⟨by omega, by omega⟩ (hXr1.ty (by omega) (by omega)) 9 (k2_add hXr1 hs hw hT (t) (t) ⟨by omega, by omega⟩ hno ⟨by omega, by omega⟩ (by rw [lUp_s]; exact rg_nil)) dX2_climb_6 q283 (zNd_of znX2_add) (Nat.le_of_ble_eq_true rfl) (Nat.le_of_ble_eq_true rfl) (Nat.le_of_ble_eq_true rfl) (Nat.le_of_ble_eq_true rfl) rfl (Nat.le_of_ble_eq_true rfl) rfl (fun v9 Q9 h9 => ?_)
  obtain ⟨rfl, Mr2, rfl, hXr2⟩ := h9
  rw [lUp_up, lUp_s] at hXr2
  refine z_as (Pic' := zP θ Mr2 N) (st' := []) rfl rfl rfl ?_
  exact z_vret C dX2_climb_9 (Nat.le_of_ble_eq_true rfl) (Nat.le_of_ble_eq_true rfl) ⟨rfl, Mr2, rfl, hXr2⟩
set_option maxRecDepth 100000 in
theorem k4_climb {l : Launch} {θ : zTh} {σ : xA} {w : mW} {Lf : Int → List Int} {M N : zMap} (hX : xM θ σ w (Lf) M) (hs : xS w) (hw : mWF w) (hT : zTb θ) (t : Int)  (ht : 0 ≤ t ∧ t < w 0 0) (hno : ∀ x : Int, 0 ≤ x → x < w 27 0 → w 28 x ≠ t) (hc : 8 ≤ t ∧ w 1 t = 3 ∧ xci w t = 4) (hLf : ∀ x : Int, 0 ≤ x → x < t → rgL (w 0 0) (Lf x)) (h8L : ∀ x : Int, 8 ≤ x → x < t → 8 ∈ Lf x) : ZM θ l yX4_climb cX4_climb 3 none ⟨2, 0, 0, 44⟩ [.ref (σ 10 (t)), .ref (σ 10 (8))] (zP θ M N) (xLs θ σ w N (lUp Lf t (adL (facS w Lf (t) (adL [] t) ((w 6 t).toNat)) 8))) := by
  refine z_start (own := RX4) (nm := "climb") pnX4 rfl rfl (Nat.le_of_ble_eq_true rfl) ?_
  intro κ hκ hκl C
  change Z κ (zP θ M N) 0 0 0 [(0, .ref (σ 10 (t))), (1, .ref (σ 10 (8)))] []
  have hS := hs.S
  have hB := hS.B
  obtain ⟨hB1, hB2, hB3, hB4, hB5, hB6⟩ := hS.B
  have hC := hS.C
  obtain ⟨h81, h82⟩ := hs.r8
  obtain ⟨f1a, f1b, f1c, f1d, f1e, f1f, f1g, f1h⟩ := hS.T (show 0 ≤ t by omega) (by omega)
  obtain ⟨f1i, f1j, f1k, f1l⟩ := hs.ty (show 0 ≤ t by omega) (by omega)
  have f7 := (hS.T ht.1 ht.2).2.2.1
  have hL0 : rgL (w 0 0) (adL [] t) := rg_one ht
  have hclt : clT w t = decide ((8 : Int) = -1) := by unfold clT; simp; omega
  refine z_aload_n C 1 0 dX4_climb_0 rfl rfl ?_
  refine z_aload_n C 2 1 dX4_climb_1 rfl rfl ?_
  refine z_callSU (As := [.ref (σ 10 (8))]) (rest := []) C hκ hκl 5 (k2_climb hX hs hw hT (t) (8) ⟨by omega, by omega⟩ hno) dX4_climb_2 q272 q268 q273 q267 q92 q274 ⟨by decide, rfl⟩ (Nat.le_of_ble_eq_true rfl) (Nat.le_of_ble_eq_true rfl) (Nat.le_of_ble_eq_true rfl) (Nat.le_of_ble_eq_true rfl) (zrec_P (xM.ty4 hX (by omega) (by omega) hc.2.2)) rfl rfl (Nat.le_of_ble_eq_true rfl) rfl (fun v9 Q9 h9 => ?_)
  obtain ⟨rfl, Mr2, rfl, hXr2⟩ := h9
  refine z_as (Pic' := zP θ Mr2 N) (st' := []) rfl rfl rfl ?_
  refine z_widen (n' := 0) (k' := 0) (Nat.le_refl _) (Nat.le_refl _) ?_
  refine z_iconst C 6 dX4_climb_5 rfl ?_
  refine z_istore_n (lv' := [(0, .ref (σ 10 (t))), (1, .ref (σ 10 (8))), (2, .int (iI (0)))]) C 7 [1, 2, 0] dX4_climb_6 (by decide) rfl rfl ?_
  have L7_3 : ∀ (fu : Nat) (k : Nat) (M9 : zMap) (hk : (k : Int) ≤ w 6 t) (hX9 : xM θ σ w (lUp Lf (t) (facS w Lf (t) (adL [] t) (k))) M9) (hme : (w 6 t).toNat - k < fu), Z κ (zP θ M9 N) 0 0 7 [(0, .ref (σ 10 (t))), (1, .ref (σ 10 (8))), (2, .int (iI ((k : Int))))] [] := by
    intro fu
    induction fu with
    | zero => intro k M9 hk hX9 hme; exact absurd hme (Nat.not_lt_zero _)
    | succ fu ih4 =>
      intro k M9 hk hX9 hme
      refine z_iload_n C 8 2 dX4_climb_7 rfl rfl ?_
      refine z_aload_n C 9 0 dX4_climb_8 rfl rfl ?_
      refine z_getf C hκ (v := .int (iI (w 6 (t)))) 12 3 zk_X4 (xM.ty4 hX9 (by omega) (by omega) hc.2.2) (by decide) q188 (Or.inr q189) rfl dX4_climb_9 rfl ?_
      refine z_icmp_ge C 32 15 dX4_climb_12 (by decide) ⟨by omega, by omega⟩ (hw.r _ _ rfl) rfl (fun c5 => ?_) (fun c5 => ?_)
      · skip
        have hk6 : k = (w 6 t).toNat := by omega
        have hX8 : xM θ σ w (lUp Lf (t) (facS w Lf (t) (adL [] t) ((w 6 t).toNat))) M9 := by rw [← hk6]; exact hX9
        refine z_aload_n C 33 0 dX4_climb_32 rfl rfl ?_
        refine z_aload_n C 34 1 dX4_climb_33 rfl rfl ?_
        refine z_callU (owner := RX2) (As := [.ref (σ 10 (8))]) (rest := []) C hκ hκl 37 (k2_add hX8 hs hw hT (t) (8) ⟨by omega, by omega⟩ hno ⟨by omega, by omega⟩ (by rw [lUp_s]; exact (fac_rg hL0 (fun j h1 h2 => hLf _ (by have := f7 j h1 h2; omega) (f7 j h1 h2).2) _ (by omega)))) dX4_climb_34 q298 q299 q301 q284 q92 q290 rfl ⟨by decide, by decide, rfl⟩ (Nat.le_of_ble_eq_true rfl) (Nat.le_of_ble_eq_true rfl) (Nat.le_of_ble_eq_true rfl) (Nat.le_of_ble_eq_true rfl) (zrec_P (xM.ty4 hX8 (by omega) (by omega) hc.2.2)) rfl rfl (Nat.le_of_ble_eq_true rfl) rfl (fun v9 Q9 h9 => ?_)
        obtain ⟨rfl, Mr6, rfl, hXr6⟩ := h9
        rw [lUp_up, lUp_s] at hXr6
        refine z_as (Pic' := zP θ Mr6 N) (st' := []) rfl rfl rfl ?_
        refine z_widen (n' := 0) (k' := 0) (Nat.le_refl _) (Nat.le_refl _) ?_
        exact z_vret C dX4_climb_37 (Nat.le_of_ble_eq_true rfl) (Nat.le_of_ble_eq_true rfl) ⟨rfl, Mr6, rfl, hXr6⟩
      · skip
        have f7k := f7 k (by omega) (by omega)
        refine z_aload_n C 16 0 dX4_climb_15 rfl rfl ?_
        refine z_aload_n C 17 0 dX4_climb_16 rfl rfl ?_
        refine z_getf C hκ (v := .ref (σ 11 (t))) 20 2 zk_X4 (xM.ty4 hX9 (by omega) (by omega) hc.2.2) (by decide) q181 (Or.inr q182) rfl dX4_climb_17 rfl ?_
        refine z_iload_n C 21 2 dX4_climb_20 rfl rfl ?_
        refine x_afc C hκ 22 hX9 hs (by omega) (by omega) (by omega) (by omega) dX4_climb_21 rfl ?_
        refine z_aload_n C 23 1 dX4_climb_22 rfl rfl ?_
        have t7 := (k2_addAll (l := l) (N := N) hX9 hs hw hT (t) (w 7 (3 * (t) + ((k : Int)))) (8) ⟨by omega, by omega⟩ hno ⟨by omega, by omega⟩ (by omega) (by omega) (by rw [lUp_s]; exact (fac_rg hL0 (fun j h1 h2 => hLf _ (by have := f7 j h1 h2; omega) (f7 j h1 h2).2) k (by omega))) (by rw [lUp_n (by omega)]; exact hLf _ (by omega) (by omega)))
        rw [xo_y (show 0 ≤ (8) by omega)] at t7
        refine z_callU (owner := RX2) (As := [.ref (σ 10 (w 7 (3 * (t) + ((k : Int))))), .ref (σ 10 (8))]) (rest := []) C hκ hκl 26 t7 dX4_climb_23 q291 q292 q294 q296 q92 q297 rfl ⟨by decide, by decide, rfl⟩ (Nat.le_of_ble_eq_true rfl) (Nat.le_of_ble_eq_true rfl) (Nat.le_of_ble_eq_true rfl) (Nat.le_of_ble_eq_true rfl) (zrec_P (xM.ty4 hX9 (by omega) (by omega) hc.2.2)) rfl rfl (Nat.le_of_ble_eq_true rfl) rfl (fun v9 Q9 h9 => ?_)
        obtain ⟨rfl, Mr8, rfl, hXr8⟩ := h9
        rw [lUp_up, lUp_s, lUp_n (show w 7 (3 * (t) + ((k : Int))) ≠ t by omega)] at hXr8
        refine z_as (Pic' := zP θ Mr8 N) (st' := []) rfl rfl rfl ?_
        refine z_widen (n' := 0) (k' := 0) (Nat.le_refl _) (Nat.le_refl _) ?_
        refine z_iinc (lv' := [(0, .ref (σ 10 (t))), (1, .ref (σ 10 (8))), (2, .int (iI (((k : Int)) + 1)))]) C 29 2 [1, 2, 0] dX4_climb_26 rfl (by decide) rfl rfl ?_
        refine z_goto C 7 dX4_climb_29 (by decide) ?_
        refine z_as (lv' := [(0, .ref (σ 10 (t))), (1, .ref (σ 10 (8))), (2, .int (iI (((k + 1) : Int))))]) rfl rfl rfl ?_
        exact ih4 (k + 1) (Mr8) (by omega) (by have hst : facS w Lf (t) (adL [] t) (k + 1) = adA (facS w Lf (t) (adL [] t) (k)) (decide ((8 : Int) = -1)) (Lf (w 7 (3 * (t) + (k : Int)))) := (by rw [← hclt]; rfl); rw [hst]; exact hXr8) (by omega)
  refine z_as (lv' := [(0, .ref (σ 10 (t))), (1, .ref (σ 10 (8))), (2, .int (iI (((0) : Int))))]) rfl rfl rfl ?_
  exact L7_3 _ (0) (Mr2) (by omega) hXr2 (Nat.lt_succ_self _)
set_option maxRecDepth 100000 in
theorem k8_climb {l : Launch} {θ : zTh} {σ : xA} {w : mW} {Lf : Int → List Int} {M N : zMap} (hX : xM θ σ w (Lf) M) (hs : xS w) (hw : mWF w) (hT : zTb θ) (t : Int)  (ht : 0 ≤ t ∧ t < w 0 0) (hno : ∀ x : Int, 0 ≤ x → x < w 27 0 → w 28 x ≠ t) (hc : 8 ≤ t ∧ w 1 t = 4 ∧ xci w t = 8) : ZM θ l yX8_climb cX8_climb 2 none ⟨2, 0, 0, 42⟩ [.ref (σ 10 (t)), .ref (σ 10 (8))] (zP θ M N) (xLs θ σ w N (lUp Lf t (adL (adL [] t) 8))) := by
  refine z_start (own := RX8) (nm := "climb") pnX8 rfl rfl (Nat.le_of_ble_eq_true rfl) ?_
  intro κ hκ hκl C
  change Z κ (zP θ M N) 0 0 0 [(0, .ref (σ 10 (t))), (1, .ref (σ 10 (8)))] []
  have hS := hs.S
  have hB := hS.B
  obtain ⟨hB1, hB2, hB3, hB4, hB5, hB6⟩ := hS.B
  have hC := hS.C
  obtain ⟨h81, h82⟩ := hs.r8
  have hL0 : rgL (w 0 0) (adL [] t) := rg_one ht
  refine z_aload_n C 1 0 dX8_climb_0 rfl rfl ?_
  refine z_aload_n C 2 1 dX8_climb_1 rfl rfl ?_
  refine z_callSU (As := [.ref (σ 10 (8))]) (rest := []) C hκ hκl 5 (k2_climb hX hs hw hT (t) (8) ⟨by omega, by omega⟩ hno) dX8_climb_2 q320 q268 q321 q267 q92 q274 ⟨by decide, rfl⟩ (Nat.le_of_ble_eq_true rfl) (Nat.le_of_ble_eq_true rfl) (Nat.le_of_ble_eq_true rfl) (Nat.le_of_ble_eq_true rfl) (zrec_P (xM.ty8 hX (by omega) (by omega) hc.2.2)) rfl rfl (Nat.le_of_ble_eq_true rfl) rfl (fun v9 Q9 h9 => ?_)
  obtain ⟨rfl, Mr1, rfl, hXr1⟩ := h9
  refine z_as (Pic' := zP θ Mr1 N) (st' := []) rfl rfl rfl ?_
  refine z_widen (n' := 0) (k' := 0) (Nat.le_refl _) (Nat.le_refl _) ?_
  refine z_aload_n C 6 0 dX8_climb_5 rfl rfl ?_
  refine z_aload_n C 7 1 dX8_climb_6 rfl rfl ?_
  refine z_callU (owner := RX2) (As := [.ref (σ 10 (8))]) (rest := []) C hκ hκl 10 (k2_add hXr1 hs hw hT (t) (8) ⟨by omega, by omega⟩ hno ⟨by omega, by omega⟩ (by rw [lUp_s]; exact hL0)) dX8_climb_7 q322 q323 q324 q284 q92 q290 rfl ⟨by decide, by decide, rfl⟩ (Nat.le_of_ble_eq_true rfl) (Nat.le_of_ble_eq_true rfl) (Nat.le_of_ble_eq_true rfl) (Nat.le_of_ble_eq_true rfl) (zrec_P (xM.ty8 hXr1 (by omega) (by omega) hc.2.2)) rfl rfl (Nat.le_of_ble_eq_true rfl) rfl (fun v9 Q9 h9 => ?_)
  obtain ⟨rfl, Mr2, rfl, hXr2⟩ := h9
  rw [lUp_up, lUp_s] at hXr2
  refine z_as (Pic' := zP θ Mr2 N) (st' := []) rfl rfl rfl ?_
  refine z_widen (n' := 0) (k' := 0) (Nat.le_refl _) (Nat.le_refl _) ?_
  exact z_vret C dX8_climb_10 (Nat.le_of_ble_eq_true rfl) (Nat.le_of_ble_eq_true rfl) ⟨rfl, Mr2, rfl, hXr2⟩
set_option maxRecDepth 100000 in
theorem k5_climb {l : Launch} {θ : zTh} {σ : xA} {w : mW} {Lf : Int → List Int} {M N : zMap} (hX : xM θ σ w (Lf) M) (hs : xS w) (hw : mWF w) (hT : zTb θ) (t : Int)  (ht : 0 ≤ t ∧ t < w 0 0) (hno : ∀ x : Int, 0 ≤ x → x < w 27 0 → w 28 x ≠ t) (hc : 8 ≤ t ∧ (w 1 t = 1 ∨ w 1 t = 2) ∧ xci w t = 5) (hLf : ∀ x : Int, 0 ≤ x → x < t → rgL (w 0 0) (Lf x)) (h8L : ∀ x : Int, 8 ≤ x → x < t → 8 ∈ Lf x) : ZM θ l yX5_climb cX5_climb 3 none ⟨2, 0, 0, 44⟩ [.ref (σ 10 (t)), .ref (σ 10 (8))] (zP θ M N) (xLs θ σ w N (lUp Lf t (facS w Lf (t) (if 0 ≤ w 2 t then adA (adL [] t) true (Lf (w 2 t)) else adL [] t) ((w 6 t).toNat)))) := by
  refine z_start (own := RX5) (nm := "climb") pnX5 rfl rfl (Nat.le_of_ble_eq_true rfl) ?_
  intro κ hκ hκl C
  change Z κ (zP θ M N) 0 0 0 [(0, .ref (σ 10 (t))), (1, .ref (σ 10 (8)))] []
  have hS := hs.S
  have hB := hS.B
  obtain ⟨hB1, hB2, hB3, hB4, hB5, hB6⟩ := hS.B
  have hC := hS.C
  obtain ⟨h81, h82⟩ := hs.r8
  obtain ⟨f1a, f1b, f1c, f1d, f1e, f1f, f1g, f1h⟩ := hS.T (show 0 ≤ t by omega) (by omega)
  obtain ⟨f1i, f1j, f1k, f1l⟩ := hs.ty (show 0 ≤ t by omega) (by omega)
  have f7 := (hS.T ht.1 ht.2).2.2.1
  have hL1 : rgL (w 0 0) (adL [] t) := rg_one ht
  have hL0 : rgL (w 0 0) (if 0 ≤ w 2 t then adA (adL [] t) true (Lf (w 2 t)) else adL [] t) := by split; exact adA_rg (hLf _ (by omega) (by omega)).2 hL1; exact hL1
  have hclt : clT w t = decide ((-1 : Int) = -1) := by unfold clT; simp; omega
  refine z_aload_n C 1 0 dX5_climb_0 rfl rfl ?_
  refine z_callU (owner := RX2) (As := []) (rest := []) C hκ hκl 4 (k2_clear hX hs hw hT (t) ⟨by omega, by omega⟩ hno) dX5_climb_1 q306 q307 q309 q276 q92 q282 rfl ⟨by decide, by decide, rfl⟩ (Nat.le_of_ble_eq_true rfl) (Nat.le_of_ble_eq_true rfl) (Nat.le_of_ble_eq_true rfl) (Nat.le_of_ble_eq_true rfl) (zrec_P (xM.ty5 hX (by omega) (by omega) hc.2.2)) rfl rfl (Nat.le_of_ble_eq_true rfl) rfl (fun v9 Q9 h9 => ?_)
  obtain ⟨rfl, Mr2, rfl, hXr2⟩ := h9
  refine z_as (Pic' := zP θ Mr2 N) (st' := []) rfl rfl rfl ?_
  refine z_widen (n' := 0) (k' := 0) (Nat.le_refl _) (Nat.le_refl _) ?_
  refine z_aload_n C 5 0 dX5_climb_4 rfl rfl ?_
  refine z_aload_n C 6 0 dX5_climb_5 rfl rfl ?_
  refine z_callU (owner := RX2) (As := [.ref (σ 10 (t))]) (rest := []) C hκ hκl 9 (k2_add hXr2 hs hw hT (t) (t) ⟨by omega, by omega⟩ hno ⟨by omega, by omega⟩ (by rw [lUp_s]; exact rg_nil)) dX5_climb_6 q310 q311 q312 q284 q92 q290 rfl ⟨by decide, by decide, rfl⟩ (Nat.le_of_ble_eq_true rfl) (Nat.le_of_ble_eq_true rfl) (Nat.le_of_ble_eq_true rfl) (Nat.le_of_ble_eq_true rfl) (zrec_P (xM.ty5 hXr2 (by omega) (by omega) hc.2.2)) rfl rfl (Nat.le_of_ble_eq_true rfl) rfl (fun v9 Q9 h9 => ?_)
  obtain ⟨rfl, Mr3, rfl, hXr3⟩ := h9
  rw [lUp_up, lUp_s] at hXr3
  refine z_as (Pic' := zP θ Mr3 N) (st' := []) rfl rfl rfl ?_
  refine z_widen (n' := 0) (k' := 0) (Nat.le_refl _) (Nat.le_refl _) ?_
  refine z_aload_n C 10 0 dX5_climb_9 rfl rfl ?_
  refine z_getf C hκ (v := va_rf (xo σ 10 (w 2 (t)))) 13 8 zk_X5 (xM.ty5 hXr3 (by omega) (by omega) hc.2.2) (by decide) q226 (Or.inl rfl) rfl dX5_climb_10 rfl ?_
  rcases Int.lt_or_le (w 2 (t)) 0 with n4 | n4
  · skip
    rw [xo_n n4]
    refine z_as (st' := [.null]) (lv' := [(0, .ref (σ 10 (t))), (1, .ref (σ 10 (8)))]) rfl rfl rfl ?_
    refine z_ifnullN C 25 dX5_climb_13 (by decide) ?_
    refine z_iconst C 26 dX5_climb_25 rfl ?_
    refine z_istore_n (lv' := [(0, .ref (σ 10 (t))), (1, .ref (σ 10 (8))), (2, .int (iI (0)))]) C 27 [1, 2, 0] dX5_climb_26 (by decide) rfl rfl ?_
    have L27_5 : ∀ (fu : Nat) (k : Nat) (M9 : zMap) (hk : (k : Int) ≤ w 6 t) (hX9 : xM θ σ w (lUp Lf (t) (facS w Lf (t) (if 0 ≤ w 2 t then adA (adL [] t) true (Lf (w 2 t)) else adL [] t) (k))) M9) (hme : (w 6 t).toNat - k < fu), Z κ (zP θ M9 N) 0 0 27 [(0, .ref (σ 10 (t))), (1, .ref (σ 10 (8))), (2, .int (iI ((k : Int))))] [] := by
      intro fu
      induction fu with
      | zero => intro k M9 hk hX9 hme; exact absurd hme (Nat.not_lt_zero _)
      | succ fu ih6 =>
        intro k M9 hk hX9 hme
        refine z_iload_n C 28 2 dX5_climb_27 rfl rfl ?_
        refine z_aload_n C 29 0 dX5_climb_28 rfl rfl ?_
        refine z_getf C hκ (v := .int (iI (w 6 (t)))) 32 3 zk_X5 (xM.ty5 hX9 (by omega) (by omega) hc.2.2) (by decide) q190 (Or.inr q191) rfl dX5_climb_29 rfl ?_
        refine z_icmp_ge C 52 35 dX5_climb_32 (by decide) ⟨by omega, by omega⟩ (hw.r _ _ rfl) rfl (fun c7 => ?_) (fun c7 => ?_)
        · skip
          exact z_vret C dX5_climb_52 (Nat.le_of_ble_eq_true rfl) (Nat.le_of_ble_eq_true rfl) (by have hk6 : k = (w 6 t).toNat := (by omega); rw [← hk6]; exact ⟨rfl, M9, rfl, hX9⟩)
        · skip
          have f7k := f7 k (by omega) (by omega)
          refine z_aload_n C 36 0 dX5_climb_35 rfl rfl ?_
          refine z_aload_n C 37 0 dX5_climb_36 rfl rfl ?_
          refine z_getf C hκ (v := .ref (σ 11 (t))) 40 2 zk_X5 (xM.ty5 hX9 (by omega) (by omega) hc.2.2) (by decide) q184 (Or.inr q185) rfl dX5_climb_37 rfl ?_
          refine z_iload_n C 41 2 dX5_climb_40 rfl rfl ?_
          refine x_afc C hκ 42 hX9 hs (by omega) (by omega) (by omega) (by omega) dX5_climb_41 rfl ?_
          refine z_null C 43 dX5_climb_42 rfl ?_
          have t8 := (k2_addAll (l := l) (N := N) hX9 hs hw hT (t) (w 7 (3 * (t) + ((k : Int)))) (-1) ⟨by omega, by omega⟩ hno ⟨by omega, by omega⟩ (by omega) (by omega) (by rw [lUp_s]; exact (fac_rg hL0 (fun j h1 h2 => hLf _ (by have := f7 j h1 h2; omega) (f7 j h1 h2).2) k (by omega))) (by rw [lUp_n (by omega)]; exact hLf _ (by omega) (by omega)))
          rw [xo_n (show (-1 : Int) < 0 by decide)] at t8
          refine z_callU (owner := RX2) (As := [.ref (σ 10 (w 7 (3 * (t) + ((k : Int))))), .null]) (rest := []) C hκ hκl 46 t8 dX5_climb_43 q313 q314 q315 q296 q92 q297 rfl ⟨by decide, by decide, rfl⟩ (Nat.le_of_ble_eq_true rfl) (Nat.le_of_ble_eq_true rfl) (Nat.le_of_ble_eq_true rfl) (Nat.le_of_ble_eq_true rfl) (zrec_P (xM.ty5 hX9 (by omega) (by omega) hc.2.2)) rfl rfl (Nat.le_of_ble_eq_true rfl) rfl (fun v9 Q9 h9 => ?_)
          obtain ⟨rfl, Mr9, rfl, hXr9⟩ := h9
          rw [lUp_up, lUp_s, lUp_n (show w 7 (3 * (t) + ((k : Int))) ≠ t by omega)] at hXr9
          refine z_as (Pic' := zP θ Mr9 N) (st' := []) rfl rfl rfl ?_
          refine z_widen (n' := 0) (k' := 0) (Nat.le_refl _) (Nat.le_refl _) ?_
          refine z_iinc (lv' := [(0, .ref (σ 10 (t))), (1, .ref (σ 10 (8))), (2, .int (iI (((k : Int)) + 1)))]) C 49 2 [1, 2, 0] dX5_climb_46 rfl (by decide) rfl rfl ?_
          refine z_goto C 27 dX5_climb_49 (by decide) ?_
          refine z_as (lv' := [(0, .ref (σ 10 (t))), (1, .ref (σ 10 (8))), (2, .int (iI (((k + 1) : Int))))]) rfl rfl rfl ?_
          exact ih6 (k + 1) (Mr9) (by omega) (by have hst : facS w Lf (t) (if 0 ≤ w 2 t then adA (adL [] t) true (Lf (w 2 t)) else adL [] t) (k + 1) = adA (facS w Lf (t) (if 0 ≤ w 2 t then adA (adL [] t) true (Lf (w 2 t)) else adL [] t) (k)) (decide ((-1 : Int) = -1)) (Lf (w 7 (3 * (t) + (k : Int)))) := (by rw [← hclt]; rfl); rw [hst]; exact hXr9) (by omega)
    refine z_as (lv' := [(0, .ref (σ 10 (t))), (1, .ref (σ 10 (8))), (2, .int (iI (((0) : Int))))]) rfl rfl rfl ?_
    exact L27_5 _ (0) (Mr3) (by omega) (by have e9 : (if 0 ≤ w 2 t then adA (adL [] t) true (Lf (w 2 t)) else adL [] t) = adL ([]) (t) := (if_neg (by omega)); show xM θ σ w (lUp Lf t (facS w Lf t (if 0 ≤ w 2 t then adA (adL [] t) true (Lf (w 2 t)) else adL [] t) 0)) Mr3; simp only [facS]; rw [e9]; exact hXr3) (Nat.lt_succ_self _)
  · skip
    rw [xo_y n4]
    refine z_as (st' := [.ref (σ 10 (w 2 (t)))]) (lv' := [(0, .ref (σ 10 (t))), (1, .ref (σ 10 (8)))]) rfl rfl rfl ?_
    refine z_ifnull C 16 dX5_climb_13 rfl ?_
    refine z_aload_n C 17 0 dX5_climb_16 rfl rfl ?_
    refine z_aload_n C 18 0 dX5_climb_17 rfl rfl ?_
    refine z_getf C hκ (v := va_rf (xo σ 10 (w 2 (t)))) 21 8 zk_X5 (xM.ty5 hXr3 (by omega) (by omega) hc.2.2) (by decide) q226 (Or.inl rfl) rfl dX5_climb_18 rfl ?_
    refine z_null C 22 dX5_climb_21 rfl ?_
    have y10 : 0 ≤ w 2 (t) := (by omega)
    rw [xo_y y10]
    refine z_as (st' := [.null, .ref (σ 10 (w 2 (t))), .ref (σ 10 (t))]) (lv' := [(0, .ref (σ 10 (t))), (1, .ref (σ 10 (8)))]) rfl rfl rfl ?_
    have t11 := (k2_addAll (l := l) (N := N) hXr3 hs hw hT (t) (w 2 (t)) (-1) ⟨by omega, by omega⟩ hno ⟨by omega, by omega⟩ (by omega) (by omega) (by rw [lUp_s]; exact hL1) (by rw [lUp_n (by omega)]; exact hLf _ (by omega) (by omega)))
    rw [xo_n (show (-1 : Int) < 0 by decide)] at t11
    refine z_callU (owner := RX2) (As := [.ref (σ 10 (w 2 (t))), .null]) (rest := []) C hκ hκl 25 t11 dX5_climb_22 q313 q314 q315 q296 q92 q297 rfl ⟨by decide, by decide, rfl⟩ (Nat.le_of_ble_eq_true rfl) (Nat.le_of_ble_eq_true rfl) (Nat.le_of_ble_eq_true rfl) (Nat.le_of_ble_eq_true rfl) (zrec_P (xM.ty5 hXr3 (by omega) (by omega) hc.2.2)) rfl rfl (Nat.le_of_ble_eq_true rfl) rfl (fun v9 Q9 h9 => ?_)
    obtain ⟨rfl, Mr12, rfl, hXr12⟩ := h9
    rw [lUp_up, lUp_s, lUp_n (show w 2 (t) ≠ t by omega)] at hXr12
    refine z_as (Pic' := zP θ Mr12 N) (st' := []) rfl rfl rfl ?_
    refine z_widen (n' := 0) (k' := 0) (Nat.le_refl _) (Nat.le_refl _) ?_
    refine z_iconst C 26 dX5_climb_25 rfl ?_
    refine z_istore_n (lv' := [(0, .ref (σ 10 (t))), (1, .ref (σ 10 (8))), (2, .int (iI (0)))]) C 27 [1, 2, 0] dX5_climb_26 (by decide) rfl rfl ?_
    have L27_13 : ∀ (fu : Nat) (k : Nat) (M9 : zMap) (hk : (k : Int) ≤ w 6 t) (hX9 : xM θ σ w (lUp Lf (t) (facS w Lf (t) (if 0 ≤ w 2 t then adA (adL [] t) true (Lf (w 2 t)) else adL [] t) (k))) M9) (hme : (w 6 t).toNat - k < fu), Z κ (zP θ M9 N) 0 0 27 [(0, .ref (σ 10 (t))), (1, .ref (σ 10 (8))), (2, .int (iI ((k : Int))))] [] := by
      intro fu
      induction fu with
      | zero => intro k M9 hk hX9 hme; exact absurd hme (Nat.not_lt_zero _)
      | succ fu ih14 =>
        intro k M9 hk hX9 hme
        refine z_iload_n C 28 2 dX5_climb_27 rfl rfl ?_
        refine z_aload_n C 29 0 dX5_climb_28 rfl rfl ?_
        refine z_getf C hκ (v := .int (iI (w 6 (t)))) 32 3 zk_X5 (xM.ty5 hX9 (by omega) (by omega) hc.2.2) (by decide) q190 (Or.inr q191) rfl dX5_climb_29 rfl ?_
        refine z_icmp_ge C 52 35 dX5_climb_32 (by decide) ⟨by omega, by omega⟩ (hw.r _ _ rfl) rfl (fun c15 => ?_) (fun c15 => ?_)
        · skip
          exact z_vret C dX5_climb_52 (Nat.le_of_ble_eq_true rfl) (Nat.le_of_ble_eq_true rfl) (by have hk6 : k = (w 6 t).toNat := (by omega); rw [← hk6]; exact ⟨rfl, M9, rfl, hX9⟩)
        · skip
          have f7k := f7 k (by omega) (by omega)
          refine z_aload_n C 36 0 dX5_climb_35 rfl rfl ?_
          refine z_aload_n C 37 0 dX5_climb_36 rfl rfl ?_
          refine z_getf C hκ (v := .ref (σ 11 (t))) 40 2 zk_X5 (xM.ty5 hX9 (by omega) (by omega) hc.2.2) (by decide) q184 (Or.inr q185) rfl dX5_climb_37 rfl ?_
          refine z_iload_n C 41 2 dX5_climb_40 rfl rfl ?_
          refine x_afc C hκ 42 hX9 hs (by omega) (by omega) (by omega) (by omega) dX5_climb_41 rfl ?_
          refine z_null C 43 dX5_climb_42 rfl ?_
          have t16 := (k2_addAll (l := l) (N := N) hX9 hs hw hT (t) (w 7 (3 * (t) + ((k : Int)))) (-1) ⟨by omega, by omega⟩ hno ⟨by omega, by omega⟩ (by omega) (by omega) (by rw [lUp_s]; exact (fac_rg hL0 (fun j h1 h2 => hLf _ (by have := f7 j h1 h2; omega) (f7 j h1 h2).2) k (by omega))) (by rw [lUp_n (by omega)]; exact hLf _ (by omega) (by omega)))
          rw [xo_n (show (-1 : Int) < 0 by decide)] at t16
          refine z_callU (owner := RX2) (As := [.ref (σ 10 (w 7 (3 * (t) + ((k : Int))))), .null]) (rest := []) C hκ hκl 46 t16 dX5_climb_43 q313 q314 q315 q296 q92 q297 rfl ⟨by decide, by decide, rfl⟩ (Nat.le_of_ble_eq_true rfl) (Nat.le_of_ble_eq_true rfl) (Nat.le_of_ble_eq_true rfl) (Nat.le_of_ble_eq_true rfl) (zrec_P (xM.ty5 hX9 (by omega) (by omega) hc.2.2)) rfl rfl (Nat.le_of_ble_eq_true rfl) rfl (fun v9 Q9 h9 => ?_)
          obtain ⟨rfl, Mr17, rfl, hXr17⟩ := h9
          rw [lUp_up, lUp_s, lUp_n (show w 7 (3 * (t) + ((k : Int))) ≠ t by omega)] at hXr17
          refine z_as (Pic' := zP θ Mr17 N) (st' := []) rfl rfl rfl ?_
          refine z_widen (n' := 0) (k' := 0) (Nat.le_refl _) (Nat.le_refl _) ?_
          refine z_iinc (lv' := [(0, .ref (σ 10 (t))), (1, .ref (σ 10 (8))), (2, .int (iI (((k : Int)) + 1)))]) C 49 2 [1, 2, 0] dX5_climb_46 rfl (by decide) rfl rfl ?_
          refine z_goto C 27 dX5_climb_49 (by decide) ?_
          refine z_as (lv' := [(0, .ref (σ 10 (t))), (1, .ref (σ 10 (8))), (2, .int (iI (((k + 1) : Int))))]) rfl rfl rfl ?_
          exact ih14 (k + 1) (Mr17) (by omega) (by have hst : facS w Lf (t) (if 0 ≤ w 2 t then adA (adL [] t) true (Lf (w 2 t)) else adL [] t) (k + 1) = adA (facS w Lf (t) (if 0 ≤ w 2 t then adA (adL [] t) true (Lf (w 2 t)) else adL [] t) (k)) (decide ((-1 : Int) = -1)) (Lf (w 7 (3 * (t) + (k : Int)))) := (by rw [← hclt]; rfl); rw [hst]; exact hXr17) (by omega)
    refine z_as (lv' := [(0, .ref (σ 10 (t))), (1, .ref (σ 10 (8))), (2, .int (iI (((0) : Int))))]) rfl rfl rfl ?_
    exact L27_13 _ (0) (Mr12) (by omega) (by have e9 : (if 0 ≤ w 2 t then adA (adL [] t) true (Lf (w 2 t)) else adL [] t) = adA (adL ([]) (t)) (decide (-1 = -1)) (Lf (w 2 (t))) := (if_pos (by omega)); show xM θ σ w (lUp Lf t (facS w Lf t (if 0 ≤ w 2 t then adA (adL [] t) true (Lf (w 2 t)) else adL [] t) 0)) Mr12; simp only [facS]; rw [e9]; exact hXr12) (Nat.lt_succ_self _)
