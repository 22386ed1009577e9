/-! ===== bodies at work: Item ===== -/
theorem ld_ownI {t i : Int} {ln : Nat} (h0 : 0 ≤ t) : ldE t ln i (cK t) = if i < 0 ∨ (ln : Int) ≤ i then 3 else 0 := by
  unfold ldE cK
  by_cases h : t < 8
  · rw [if_pos h, if_neg (by omega)]
    by_cases h2 : i < 0 ∨ (ln : Int) ≤ i
    · rw [if_pos h2, if_pos h2]
    · rw [if_neg h2, if_neg h2, if_neg (by rw [wdB_same h0 h]; simp)]
  · rw [if_neg h, if_neg (by omega)]
    by_cases h2 : i < 0 ∨ (ln : Int) ≤ i
    · rw [if_pos h2, if_pos h2]
    · rw [if_neg h2, if_neg h2, if_neg (by simp)]
/-- a value of a type of rows is a row, or nothing -/
theorem ag_row {w : mW} (hs : xS w) (hT : mTy w) (hTh : ∀ x : Int, 0 ≤ x → x < w 27 0 → w 29 x = -1 → w 1 (w 28 x) ≠ 4) {p v : Int} (hp : 0 ≤ p ∧ p < w 0 0) (h4 : w 1 p = 4) (h : agB w p v = true) : 8 ≤ p ∧ -1 ≤ v ∧ v < w 27 0 ∧ (0 ≤ v → w 29 v ≠ -1) := by
  have h8 : 8 ≤ p := by
    by_cases h9 : p < 8
    · have := hT.2.2.2 p hp.1 h9; omega
    · omega
  obtain ⟨a1, a2⟩ := agc_ft h
  have hb := ft8 a1 h8
  refine ⟨h8, hb.1, hb.2, fun h0 h29 => ?_⟩
  have hx := (hs.2.1.X h0 hb.2).1
  rcases hT.2.2.1 (w 28 v) p (by omega) hx.2 hp.1 hp.2 (a2 h8 h0) h4 with e | ⟨e, -, -⟩
  · exact hTh v h0 hb.2 h29 (by rw [e]; exact h4)
  · exact hTh v h0 hb.2 h29 e

set_option maxRecDepth 100000 in
theorem k21_work_21 {l : Launch} {θ : zTh} {σ : xA} {w : mW} {M N : zMap} (hX : xM θ σ w (xL w) M) (hs : xS w) (hw : mWF w) (hT : zTb θ) (hZ : zTx θ l) (b : Nat) (m : Int) (x : Int) (y : Int) (fr : Nat) (xs : Int) (ar : Nat) (out : Nat) (dp : Int) (k1 : Int) (b1 : Int) (t1 : Option Nat) (av : Int → Int)  (hb : M b = some (.inr (21, [.ref (σ 20 (m)), .ref (σ 0 (0)), .int (iI (x)), .ref (σ 0 (0)), .int (iI (y)), .ref (σ 0 (0))]))) (hm : 0 ≤ m ∧ m < w 11 0) (r_x : inR x) (r_y : inR y) (r_dp : inR dp) (hFr : M fr = some (.inr (26, [va_rf (xo σ 30 (xs)), .ref (ar), .ref (out), .int (iI (dp))]))) (hO : M out = some (.inr (6, [.int (iI (k1)), .long (lI (b1)), va_rf (t1)]))) (hOf : xFr σ w (xL w) out) (hxs : -1 ≤ xs ∧ xs < w 27 0) (hV : mV w) (hipx : 0 ≤ x ∧ x < w 18 m) (hipy : 0 ≤ y ∧ y < w 18 m) (h4 : w 1 (w 19 (3 * m + x)) = 4) (hy8 : w 19 (3 * m + y) < 8) (hwy : wdB (w 19 (3 * m + y)) 4 = true) (hA : xArg σ w θ m av M ar out) (hAL : ∀ j, inL (av j)) (hTy9 : mTy w) (hTh : ∀ x : Int, 0 ≤ x → x < w 27 0 → w 29 x = -1 → w 1 (w 28 x) ≠ 4) : zMX θ l yX21_work (ws_ yX21_work cX21_work 5 none) ⟨11, 8, 260, 10293⟩ [.ref (b), .ref (fr)] (zP θ M N) (fun v9 Q9 => v9 = none ∧ (0 ≤ av x ∧ 0 ≤ av y ∧ av y < w 29 (av x)) ∧ ∃ M' : zMap, Q9 = zP θ M' N ∧ xM θ σ w (xL w) M' ∧ M' out = some (.inr (6, [.int (iI (gvK (w 17 m) (w 4 (xpI w m x)) (cK (w 4 (w 28 (av x)))))), .long (lI (gvB (w 17 m) (w 4 (xpI w m x)) (cK (w 4 (w 28 (av x)))) (cB (w 4 (w 28 (av x))) (w 31 (20 * av x + ((av y).toNat : Nat)))))), va_rf (gvT (w 17 m) (w 4 (xpI w m x)) (cT σ (w 4 (w 28 (av x))) (w 31 (20 * av x + ((av y).toNat : Nat)))))])) ∧ xKp σ w out M M') (fun E9 b9 Q9 => ∃ (M' : zMap) (c9 : Int), Q9 = zP θ M' N ∧ xM θ σ w (xL w) M' ∧ (¬ (0 ≤ av x ∧ 0 ≤ av y ∧ av y < w 29 (av x)) ∧ c9 = if av x < 0 then 1 else 3) ∧ c9 ≠ 0 ∧ xEx M' b9 E9 c9 ∧ xKp σ w out M M') := by
  refine zx_start (own := RX21) (nm := "work") pnX21 rfl rfl (Nat.le_of_ble_eq_true rfl) ?_
  intro κ hκ hκl C XX
  change Z κ (zP θ M N) 0 0 0 [(0, .ref (b)), (1, .ref (fr))] []
  have hS := hs.S
  have hB := hS.B
  obtain ⟨hB1, hB2, hB3, hB4, hB5, hB6⟩ := hS.B
  have hC := hS.C
  obtain ⟨h81, h82⟩ := hs.r8
  obtain ⟨f1a, f1b, f1c, f1d⟩ := hS.M (show 0 ≤ m by omega) (by omega)
  obtain ⟨g9, hg9, hA9⟩ := hA
  have ne2 : b ≠ out := fun z9 => by have z8 := hb; rw [z9, hO] at z8; cases z8
  have ne3 : fr ≠ out := fun z9 => by have z8 := hFr; rw [z9, hO] at z8; cases z8
  have ne4 : ar ≠ out := fun z9 => by have z8 := hg9; rw [z9, hO] at z8; cases z8
  have fx09 : zFx out M M := zFx.rf
  have k17 : -1 ≤ w 17 m := by omega
  have hpx := xpI_r hS (i := x) hm.1 hm.2
  have hxp9 : xpI w m x = w 19 (3 * m + x) := xpI_y (by unfold ipB; exact decide_eq_true hipx)
  have hex9 : ((x.toNat : Nat) : Int) = x := by omega
  obtain ⟨cx9, hgx9, hnx9, hcx9, hagx9⟩ := hA9 x.toNat (by omega)
  rw [hex9] at hcx9 hagx9
  have hprx9 := (hS.M hm.1 hm.2).2.2.2 x (by omega) (by omega)
  have hkcx9 := cK_r (t := w 19 (3 * m + x)) (by omega)
  have hbcx9 : inL (cB (w 19 (3 * m + x)) (av x)) := cB_L (hAL _)
  have hftx9 : ftB w (w 19 (3 * m + x)) (av x) = true := by unfold agB at hagx9; rw [Bool.and_eq_true] at hagx9; exact hagx9.1
  have hnmx9 : nmOk (cK (w 19 (3 * m + x))) (cB (w 19 (3 * m + x)) (av x)) := cK_nm (by omega) (hAL _) hftx9
  have hey9 : ((y.toNat : Nat) : Int) = y := by omega
  obtain ⟨cy9, hgy9, hny9, hcy9, hagy9⟩ := hA9 y.toNat (by omega)
  rw [hey9] at hcy9 hagy9
  have hpry9 := (hS.M hm.1 hm.2).2.2.2 y (by omega) (by omega)
  have hkcy9 := cK_r (t := w 19 (3 * m + y)) (by omega)
  have hbcy9 : inL (cB (w 19 (3 * m + y)) (av y)) := cB_L (hAL _)
  have hfty9 : ftB w (w 19 (3 * m + y)) (av y) = true := by unfold agB at hagy9; rw [Bool.and_eq_true] at hagy9; exact hagy9.1
  have hnmy9 : nmOk (cK (w 19 (3 * m + y))) (cB (w 19 (3 * m + y)) (av y)) := cK_nm (by omega) (hAL _) hfty9
  refine z_aload_n C 1 1 dX21_work_0 rfl rfl ?_
  refine z_getf C hκ (v := .ref (ar)) 4 1 zk_X26 hFr (by decide) q1744 (Or.inl rfl) rfl dX21_work_1 rfl ?_
  refine z_aload_n C 5 0 dX21_work_4 rfl rfl ?_
  refine z_getf C hκ (v := .int (iI (x))) 8 2 zk_X21 hb (by decide) q813 (Or.inr q814) rfl dX21_work_5 rfl ?_
  refine z_qald C hκ 9 11 hg9 rfl (by omega) (by omega) (by decide) (congrArg va_rf hgx9) dX21_work_8 rfl ?_
  refine z_as (st' := [.ref (cx9)]) rfl rfl rfl ?_
  obtain ⟨h8p9, hz19, hz29, hrow9⟩ := ag_row hs hTy9 hTh ⟨by omega, by omega⟩ h4 hagx9
  have hbR9 : inR (av y) := ft_R hfty9 (by omega) (by have h9 := hwy; unfold wdB at h9; have h8 := of_decide_eq_true h9; omega)
  have hcy89 : cB (w 19 (3 * m + y)) (av y) = av y := if_pos hy8
  refine z_getf C hκ (v := va_rf (cT σ (w 19 (3 * m + x)) (av x))) 12 2 zk_X6 hcx9 (by decide) q253 (Or.inl rfl) rfl dX21_work_9 rfl ?_
  rw [show (va_rf (cT σ (w 19 (3 * m + x)) (av x)) : Value) = va_rf (xo σ 30 (av x)) from congrArg va_rf (cT_8 h8p9)]
  refine z_astore_nq (lv' := [(0, .ref (b)), (1, .ref (fr)), (2, va_rf (xo σ 30 (av x)))]) C 13 [1, 2, 0] dX21_work_12 (by decide) rfl rfl ?_
  refine z_aload_nq C 14 2 dX21_work_13 rfl rfl ?_
  rcases Int.lt_or_le (av x) 0 with n5 | n5
  · skip
    rw [xo_n n5]
    refine z_as (st' := [.null]) (lv' := [(0, .ref (b)), (1, .ref (fr)), (2, .null)]) rfl rfl rfl ?_
    refine zx_getfN (rest := []) C hκ hκl hT hZ 1 zk_X24 (by decide) q1273 (Or.inl rfl) dX21_work_14 (Nat.le_of_ble_eq_true rfl) (Nat.le_of_ble_eq_true rfl) (Nat.le_of_ble_eq_true rfl) (Nat.le_of_ble_eq_true rfl) (Nat.le_of_ble_eq_true rfl) (fun b9 => ?_)
    refine zx_out C hκ hT XX (fun z9 h9 => by cases h9) ⟨M, 1, rfl, hX, ⟨(by omega), (by rw [if_pos (by omega)])⟩, by decide, Or.inr (Or.inl ⟨rfl, rfl⟩), xKp.of zFx.rf⟩ (Nat.le_of_ble_eq_true rfl) (Nat.le_of_ble_eq_true rfl)
  · skip
    rw [xo_y n5]
    refine z_as (st' := [.ref (σ 30 (av x))]) (lv' := [(0, .ref (b)), (1, .ref (fr)), (2, .ref (σ 30 (av x)))]) rfl rfl rfl ?_
    obtain ⟨f6a, f6b, f6c⟩ := hS.X (show 0 ≤ av x by omega) (by omega)
    refine x_pget (v := .ref (σ 10 (w 28 (av x)))) C hκ 17 1 hX (by omega) (by omega) (by decide) rfl q1273 (Or.inl rfl) rfl dX21_work_14 rfl ?_
    have h0x9 : 0 ≤ av x := by omega
    have h99 := hrow9 h0x9
    have hxx9 := hS.X h0x9 hz29
    have hx29 := hxx9.2.1
    have hxxa9 := hxx9.1
    have ht09 := (hxx9.2.2 h99).2
    have htt9 := (hS.T (t := w 28 (av x)) (by omega) hxx9.1.2).2.2.2.1
    obtain ⟨e9, he9, hr9⟩ := xM.itm hX h0x9 hz29 h99
    have hvk9 := iv_ok hs hw hV h0x9 hz29 h99
    have hkf9 := cK_r (t := w 4 (w 28 (av x))) (by omega)
    have h00x9 : 0 ≤ w 4 (w 28 (av x)) := by omega
    have hvr9 := av x
    have hno9 : σ 32 (av x) ≠ out := fun z9 => by rw [z9] at he9; rw [hO] at he9; rcases hr9 with ⟨_, _, _, h, _⟩ | ⟨_, _, h, _⟩ | ⟨_, _, h, _⟩ | ⟨_, _, h, _⟩ | ⟨_, _, h, _⟩ <;> (rw [h] at he9; cases he9)
    obtain ⟨f7a, f7b, f7c, f7d, f7e, f7f, f7g, f7h⟩ := hS.T (show 0 ≤ w 28 (av x) by omega) (by omega)
    obtain ⟨f7i, f7j, f7k, f7l⟩ := hs.ty (show 0 ≤ w 28 (av x) by omega) (by omega)
    refine xv_of (rest := []) C hκ hκl hX hs hw hT (w 28 (av x))   ⟨(by omega), (by omega)⟩  20 dX21_work_17 q1090 (Nat.le_of_ble_eq_true rfl) (Nat.le_of_ble_eq_true rfl) (Nat.le_of_ble_eq_true rfl) (Nat.le_of_ble_eq_true rfl) (Nat.le_of_ble_eq_true rfl) rfl ?_
    refine z_as (st' := [va_rf (xo σ 10 (w 4 (w 28 (av x))))]) rfl rfl rfl ?_
    refine z_astore_nq (lv' := [(0, .ref (b)), (1, .ref (fr)), (2, .ref (σ 30 (av x))), (3, va_rf (xo σ 10 (w 4 (w 28 (av x)))))]) C 21 [1, 2, 3, 0] dX21_work_20 (by decide) rfl rfl ?_
    refine z_new (fs := [.int (iI (0)), .long (lI (0)), .null]) C hκ 24 zk_X6 q1825 q241 q96 (fun j9 h9 => match j9, h9 with | 0, _ => rfl | 1, _ => rfl | 2, _ => rfl | (j9 + 3), h9 => absurd h9 (by omega)) (Nat.le_of_ble_eq_true rfl) (Nat.le_of_ble_eq_true rfl) dX21_work_21 rfl (fun a8 a8M a8N => ?_)
    refine z_widen (n' := 1) (k' := 3) (Nat.le_refl _) (Nat.le_refl _) ?_
    have ne9 : b ≠ a8 := fun z9 => by have z8 := hb; rw [z9, a8M] at z8; cases z8
    have ne10 : fr ≠ a8 := fun z9 => by have z8 := hFr; rw [z9, a8M] at z8; cases z8
    have ne11 : out ≠ a8 := fun z9 => by have z8 := hO; rw [z9, a8M] at z8; cases z8
    have ne12 : cx9 ≠ a8 := fun z9 => by have z8 := hcx9; rw [z9, a8M] at z8; cases z8
    have ne13 : cy9 ≠ a8 := fun z9 => by have z8 := hcy9; rw [z9, a8M] at z8; cases z8
    have ne14 : ar ≠ a8 := fun z9 => by have z8 := hg9; rw [z9, a8M] at z8; cases z8
    have ne15 : σ 32 (av x) ≠ a8 := fun z9 => by have z8 := he9; rw [z9, a8M] at z8; cases z8
    have fr16 : xFr σ w (xL w) a8 := hX.fr a8M
    have no17 : M a8 = none := fx09.no a8M (fun z9 => ne11 z9.symm)
    obtain ⟨M1, eM1⟩ : ∃ z9 : zMap, zup M a8 (.inr (6, [.int (iI (0)), .long (lI (0)), .null]) : va_E) = z9 := ⟨_, rfl⟩
    rw [eM1]
    have o18 : M1 b = some (.inr (21, [.ref (σ 20 (m)), .ref (σ 0 (0)), .int (iI (x)), .ref (σ 0 (0)), .int (iI (y)), .ref (σ 0 (0))])) := eM1 ▸ (zup_n ne9).trans hb
    have o19 : M1 fr = some (.inr (26, [va_rf (xo σ 30 (xs)), .ref (ar), .ref (out), .int (iI (dp))])) := eM1 ▸ (zup_n ne10).trans hFr
    have o20 : M1 out = some (.inr (6, [.int (iI (k1)), .long (lI (b1)), va_rf (t1)])) := eM1 ▸ (zup_n ne11).trans hO
    have o21 : M1 cx9 = some (.inr (6, [.int (iI (cK (w 19 (3 * m + x)))), .long (lI (cB (w 19 (3 * m + x)) (av x))), va_rf (cT σ (w 19 (3 * m + x)) (av x))])) := eM1 ▸ (zup_n ne12).trans hcx9
    have o22 : M1 cy9 = some (.inr (6, [.int (iI (cK (w 19 (3 * m + y)))), .long (lI (cB (w 19 (3 * m + y)) (av y))), va_rf (cT σ (w 19 (3 * m + y)) (av y))])) := eM1 ▸ (zup_n ne13).trans hcy9
    have o23 : M1 ar = some (.inl (θ.2.1 11, 3, xQ g9)) := eM1 ▸ (zup_n ne14).trans hg9
    have o24 : M1 (σ 32 (av x)) = some (e9) := eM1 ▸ (zup_n ne15).trans he9
    have hX25 : xM θ σ w (xL w) M1 := eM1 ▸ hX.up fr16
    have fx26 : zFx out M M1 := eM1 ▸ fx09.up (Or.inl no17)
    have o27 : M1 a8 = some (.inr (6, [.int (iI (0)), .long (lI (0)), .null])) := eM1 ▸ zup_s
    refine z_dup C 25 dX21_work_24 rfl rfl ?_
    refine z_callIN (As := []) (rest := [.ref (a8)]) C hκ hκl hT 28 (k6_init_6 hT (a8) o27) dX21_work_25 q1826 q243 q96 q244 (zNd_of znX6_init) rfl (Nat.le_of_ble_eq_true rfl) (Nat.le_of_ble_eq_true rfl) (Nat.le_of_ble_eq_true rfl) (Nat.le_of_ble_eq_true rfl) rfl (Nat.le_of_ble_eq_true rfl) rfl (fun v9 Q9 h9 => ?_)
    obtain ⟨rfl, rfl⟩ := h9
    obtain ⟨M2, eM2⟩ : ∃ z9 : zMap, zup M1 a8 (.inr (6, [.int (iI (4)), .long (lI (0)), .null]) : va_E) = z9 := ⟨_, rfl⟩
    rw [eM2]
    have o28 : M2 b = some (.inr (21, [.ref (σ 20 (m)), .ref (σ 0 (0)), .int (iI (x)), .ref (σ 0 (0)), .int (iI (y)), .ref (σ 0 (0))])) := eM2 ▸ (zup_n ne9).trans o18
    have o29 : M2 fr = some (.inr (26, [va_rf (xo σ 30 (xs)), .ref (ar), .ref (out), .int (iI (dp))])) := eM2 ▸ (zup_n ne10).trans o19
    have o30 : M2 out = some (.inr (6, [.int (iI (k1)), .long (lI (b1)), va_rf (t1)])) := eM2 ▸ (zup_n ne11).trans o20
    have o31 : M2 cx9 = some (.inr (6, [.int (iI (cK (w 19 (3 * m + x)))), .long (lI (cB (w 19 (3 * m + x)) (av x))), va_rf (cT σ (w 19 (3 * m + x)) (av x))])) := eM2 ▸ (zup_n ne12).trans o21
    have o32 : M2 cy9 = some (.inr (6, [.int (iI (cK (w 19 (3 * m + y)))), .long (lI (cB (w 19 (3 * m + y)) (av y))), va_rf (cT σ (w 19 (3 * m + y)) (av y))])) := eM2 ▸ (zup_n ne13).trans o22
    have o33 : M2 ar = some (.inl (θ.2.1 11, 3, xQ g9)) := eM2 ▸ (zup_n ne14).trans o23
    have o34 : M2 (σ 32 (av x)) = some (e9) := eM2 ▸ (zup_n ne15).trans o24
    have hX35 : xM θ σ w (xL w) M2 := eM2 ▸ hX25.up fr16
    have fx36 : zFx out M M2 := eM2 ▸ fx26.up (Or.inl no17)
    have o37 : M2 a8 = some (.inr (6, [.int (iI (4)), .long (lI (0)), .null])) := eM2 ▸ zup_s
    refine z_as (st' := [.ref (a8)]) rfl rfl rfl ?_
    refine z_astore (lv' := [(0, .ref (b)), (1, .ref (fr)), (2, .ref (σ 30 (av x))), (3, va_rf (xo σ 10 (w 4 (w 28 (av x))))), (4, .ref (a8))]) C 30 [1, 2, 3, 4, 0] dX21_work_28 (by decide) (by cases (xo σ 10 (w 4 (w 28 (av x)))) <;> rfl) rfl ?_
    refine z_aload_n C 31 2 dX21_work_30 rfl rfl ?_
    have y38 : w 29 (av x) ≠ -1 := h99
    refine z_castS C hκ 34 (hX35.many (by omega) (by omega) y38) rfl q1827 dX21_work_31 rfl ?_
    refine z_getf C hκ (v := .ref (σ 32 (av x))) 37 3 zk_X27 (hX35.many (by omega) (by omega) y38) (by decide) q1881 (Or.inl rfl) rfl dX21_work_34 rfl ?_
    refine z_aload_n C 38 1 dX21_work_37 rfl rfl ?_
    refine z_getf C hκ (v := .ref (ar)) 41 1 zk_X26 o29 (by decide) q1744 (Or.inl rfl) rfl dX21_work_38 rfl ?_
    refine z_aload_n C 42 0 dX21_work_41 rfl rfl ?_
    refine z_getf C hκ (v := .int (iI (y))) 45 4 zk_X21 o28 (by decide) q1001 (Or.inl rfl) rfl dX21_work_42 rfl ?_
    refine z_qald C hκ 46 11 o33 rfl (by omega) (by omega) (by decide) (congrArg va_rf hgy9) dX21_work_45 rfl ?_
    refine z_as (st' := [.ref (cy9), .ref (σ 32 (av x))]) rfl rfl rfl ?_
    refine z_getf C hκ (v := .long (lI (cB (w 19 (3 * m + y)) (av y)))) 49 1 zk_X6 o32 (by decide) q249 (Or.inl rfl) rfl dX21_work_46 rfl ?_
    rw [show (.long (lI (cB (w 19 (3 * m + y)) (av y))) : Value) = .long (lI (av y)) from congrArg (fun z9 => Value.long (lI z9)) hcy89]
    refine z_l2i C 50 dX21_work_49 rfl ?_
    refine z_aload_nq C 51 3 dX21_work_50 rfl rfl ?_
    have y39 : 0 ≤ w 4 (w 28 (av x)) := (by omega)
    rw [xo_y y39]
    refine z_as (st' := [.ref (σ 10 (w 4 (w 28 (av x)))), .int (iI (av y)), .ref (σ 32 (av x))]) (lv' := [(0, .ref (b)), (1, .ref (fr)), (2, .ref (σ 30 (av x))), (3, .ref (σ 10 (w 4 (w 28 (av x))))), (4, .ref (a8))]) rfl rfl rfl ?_
    obtain ⟨f40a, f40b, f40c, f40d, f40e, f40f, f40g, f40h⟩ := hS.T (show 0 ≤ w 4 (w 28 (av x)) by omega) (by omega)
    obtain ⟨f40i, f40j, f40k, f40l⟩ := hs.ty (show 0 ≤ w 4 (w 28 (av x)) by omega) (by omega)
    refine xv_isReference (rest := [.int (iI (av y)), .ref (σ 32 (av x))]) C hκ hκl hX35 hs hw hT (w 4 (w 28 (av x)))   ⟨(by omega), (by omega)⟩  54 dX21_work_51 q1828 (Nat.le_of_ble_eq_true rfl) (Nat.le_of_ble_eq_true rfl) (Nat.le_of_ble_eq_true rfl) (Nat.le_of_ble_eq_true rfl) (Nat.le_of_ble_eq_true rfl) rfl ?_
    refine z_as (st' := [.int (iI (bI (rfB w (w 4 (w 28 (av x)))))), .int (iI (av y)), .ref (σ 32 (av x))]) rfl rfl rfl ?_
    refine z_ifB_eq C 62 57 dX21_work_54 (by decide) rfl (fun c41 => ?_) (fun c41 => ?_)
    · skip
      have c41b : ¬ (8 ≤ (w 4 (w 28 (av x))) ∧ (w 4 (w 28 (av x))) < w 0 0) := of_decide_eq_false c41
      refine z_aload_n C 63 3 dX21_work_62 rfl rfl ?_
      refine xv_number (rest := [.int (iI (av y)), .ref (σ 32 (av x))]) C hκ hκl hX35 hs hw hT (w 4 (w 28 (av x)))   ⟨(by omega), (by omega)⟩  66 dX21_work_63 q1829 (Nat.le_of_ble_eq_true rfl) (Nat.le_of_ble_eq_true rfl) (Nat.le_of_ble_eq_true rfl) (Nat.le_of_ble_eq_true rfl) (Nat.le_of_ble_eq_true rfl) rfl ?_
      refine z_as (st' := [.int (iI ((w 4 (w 28 (av x))))), .int (iI (av y)), .ref (σ 32 (av x))]) rfl rfl rfl ?_
      refine z_aload C 68 4 dX21_work_66 rfl rfl ?_
      refine zx_callSN (As := [.ref (σ 32 (av x)), .int (iI (av y)), .int (iI ((w 4 (w 28 (av x))))), .ref (a8)]) (rest := []) C hκ hκl hT 71 (k0_load hT hZ (σ 32 (av x)) (w 4 (w 28 (av x))) ((w 29 (av x)).toNat) ((fun j : Nat => w 31 (20 * av x + j))) (e9) (av y) ((w 4 (w 28 (av x)))) (a8) (4) (0) (none) hbR9 ⟨by omega, by omega⟩ o34 hr9 hvk9 (by omega) ⟨by omega, by omega⟩ o37) dX21_work_68 q1830 q1524 q90 q1525 (zNd_of znX0_load) (Nat.le_of_ble_eq_true rfl) (Nat.le_of_ble_eq_true rfl) (Nat.le_of_ble_eq_true rfl) (Nat.le_of_ble_eq_true rfl) rfl (Nat.le_of_ble_eq_true rfl) rfl (fun v9 Q9 h9 => ?_) (fun E9 b9 Q9 h9 => ?_)
      rotate_left 1
      · skip
        obtain ⟨cr42, hnr42, hcr42, er42, rfl⟩ := h9
        refine zx_out C hκ hT XX (fun z9 h9 => by cases h9) ⟨M2, cr42, rfl, hX35, (by have h7 := ld_ownI (i := av y) (ln := (w 29 (av x)).toNat) h00x9; rw [← (ld_cp (σ := σ) (t := w 4 (w 28 (av x))) (b := 0) (by omega)).1] at h7; have h9 := hnr42; rw [h7] at h9; split at h9; (rename_i h8; exact ⟨(by omega), (by rw [if_neg (by omega)]; omega)⟩); exact absurd h9.symm hcr42), hcr42, Or.inr er42, xKp.of fx36⟩ (Nat.le_of_ble_eq_true rfl) (Nat.le_of_ble_eq_true rfl)
      obtain ⟨rfl, hnr43, rfl⟩ := h9
      obtain ⟨M3, eM3⟩ : ∃ z9 : zMap, zup M2 a8 (.inr (6, [.int (iI ((w 4 (w 28 (av x))))), .long (lI (ldB (w 4 (w 28 (av x))) ((w 4 (w 28 (av x)))) ((fun j : Nat => w 31 (20 * av x + j)) (av y).toNat))), va_rf (ldT σ ((w 4 (w 28 (av x)))) ((fun j : Nat => w 31 (20 * av x + j)) (av y).toNat))]) : va_E) = z9 := ⟨_, rfl⟩
      rw [eM3]
      have o44 : M3 b = some (.inr (21, [.ref (σ 20 (m)), .ref (σ 0 (0)), .int (iI (x)), .ref (σ 0 (0)), .int (iI (y)), .ref (σ 0 (0))])) := eM3 ▸ (zup_n ne9).trans o28
      have o45 : M3 fr = some (.inr (26, [va_rf (xo σ 30 (xs)), .ref (ar), .ref (out), .int (iI (dp))])) := eM3 ▸ (zup_n ne10).trans o29
      have o46 : M3 out = some (.inr (6, [.int (iI (k1)), .long (lI (b1)), va_rf (t1)])) := eM3 ▸ (zup_n ne11).trans o30
      have o47 : M3 cx9 = some (.inr (6, [.int (iI (cK (w 19 (3 * m + x)))), .long (lI (cB (w 19 (3 * m + x)) (av x))), va_rf (cT σ (w 19 (3 * m + x)) (av x))])) := eM3 ▸ (zup_n ne12).trans o31
      have o48 : M3 cy9 = some (.inr (6, [.int (iI (cK (w 19 (3 * m + y)))), .long (lI (cB (w 19 (3 * m + y)) (av y))), va_rf (cT σ (w 19 (3 * m + y)) (av y))])) := eM3 ▸ (zup_n ne13).trans o32
      have o49 : M3 ar = some (.inl (θ.2.1 11, 3, xQ g9)) := eM3 ▸ (zup_n ne14).trans o33
      have o50 : M3 (σ 32 (av x)) = some (e9) := eM3 ▸ (zup_n ne15).trans o34
      have hX51 : xM θ σ w (xL w) M3 := eM3 ▸ hX35.up fr16
      have fx52 : zFx out M M3 := eM3 ▸ fx36.up (Or.inl no17)
      have o53 : M3 a8 = some (.inr (6, [.int (iI ((w 4 (w 28 (av x))))), .long (lI (ldB (w 4 (w 28 (av x))) ((w 4 (w 28 (av x)))) ((fun j : Nat => w 31 (20 * av x + j)) (av y).toNat))), va_rf (ldT σ ((w 4 (w 28 (av x)))) ((fun j : Nat => w 31 (20 * av x + j)) (av y).toNat))])) := eM3 ▸ zup_s
      refine z_as (st' := []) rfl rfl rfl ?_
      refine z_widen (n' := 5) (k' := 231) (Nat.le_refl _) (Nat.le_refl _) ?_
      have hin9 : 0 ≤ av y ∧ av y < w 29 (av x) := by have h7 := ld_ownI (i := av y) (ln := (w 29 (av x)).toNat) h00x9; rw [← (ld_cp (σ := σ) (t := w 4 (w 28 (av x))) (b := w 31 (20 * av x + ((av y).toNat : Nat))) (by omega)).1] at h7; have h9 := hnr43; rw [h7] at h9; split at h9; cases h9; rename_i h8; omega
      have o54 : M3 a8 = some (.inr (6, [.int (iI (cK (w 4 (w 28 (av x))))), .long (lI (cB (w 4 (w 28 (av x))) (w 31 (20 * av x + ((av y).toNat : Nat))))), va_rf (cT σ (w 4 (w 28 (av x))) (w 31 (20 * av x + ((av y).toNat : Nat))))])) := by obtain ⟨g1, g2, g3⟩ := ld_cp (σ := σ) (t := w 4 (w 28 (av x))) (b := w 31 (20 * av x + ((av y).toNat : Nat))) (by omega); rw [← g2, ← g3, ← g1]; exact o53
      have hfz9 : ftB w (w 4 (w 28 (av x))) (w 31 (20 * av x + ((av y).toNat : Nat))) = true := hV.2.2.2.1 (av x) ((av y).toNat : Nat) h0x9 hz29 (by omega) (by omega) h99
      refine z_aload_n C 72 0 dX21_work_71 rfl rfl ?_
      refine z_aload_n C 73 1 dX21_work_72 rfl rfl ?_
      refine z_aload C 75 4 dX21_work_73 rfl rfl ?_
      refine z_callU (owner := RX10) (As := [.ref (fr), .ref (a8)]) (rest := []) C hκ hκl 78 (k10_gives_21 hX51 hs hw hT (b) (m) (x) (y) (fr) (xo σ 30 (xs)) (ar) (out) (dp) (k1) (b1) (t1) (a8) (cK (w 4 (w 28 (av x)))) (cB (w 4 (w 28 (av x))) (w 31 (20 * av x + ((av y).toNat : Nat)))) (cT σ (w 4 (w 28 (av x))) (w 31 (20 * av x + ((av y).toNat : Nat)))) o44 ⟨by omega, by omega⟩ r_x r_y r_dp o45 o46 hOf o54 ne11 (cK_nm h00x9 (hw.l _ _) hfz9) ⟨by omega, by omega⟩ (by omega)) dX21_work_75 q1831 q1832 q1833 q1786 q104 q1787 rfl ⟨by decide, by decide, rfl⟩ (Nat.le_of_ble_eq_true rfl) (Nat.le_of_ble_eq_true rfl) (Nat.le_of_ble_eq_true rfl) (Nat.le_of_ble_eq_true rfl) (zrec_P o44) rfl rfl (Nat.le_of_ble_eq_true rfl) rfl (fun v9 Q9 h9 => ?_)
      obtain ⟨rfl, rfl⟩ := h9
      obtain ⟨M4, eM4⟩ : ∃ z9 : zMap, zup M3 out (.inr (6, [.int (iI (gvK (w 17 (m)) (w 4 (xpI w (m) (x))) (cK (w 4 (w 28 (av x)))))), .long (lI (gvB (w 17 (m)) (w 4 (xpI w (m) (x))) (cK (w 4 (w 28 (av x)))) (cB (w 4 (w 28 (av x))) (w 31 (20 * av x + ((av y).toNat : Nat)))))), va_rf (gvT (w 17 (m)) (w 4 (xpI w (m) (x))) (cT σ (w 4 (w 28 (av x))) (w 31 (20 * av x + ((av y).toNat : Nat)))))]) : va_E) = z9 := ⟨_, rfl⟩
      rw [eM4]
      have o55 : M4 b = some (.inr (21, [.ref (σ 20 (m)), .ref (σ 0 (0)), .int (iI (x)), .ref (σ 0 (0)), .int (iI (y)), .ref (σ 0 (0))])) := eM4 ▸ (zup_n ne2).trans o44
      have o56 : M4 fr = some (.inr (26, [va_rf (xo σ 30 (xs)), .ref (ar), .ref (out), .int (iI (dp))])) := eM4 ▸ (zup_n ne3).trans o45
      have o57 : M4 cx9 = some (.inr (6, [.int (iI (cK (w 19 (3 * m + x)))), .long (lI (cB (w 19 (3 * m + x)) (av x))), va_rf (cT σ (w 19 (3 * m + x)) (av x))])) := eM4 ▸ (zup_n (fun z9 => (fun z9 => hnx9 z9.symm) z9.symm)).trans o47
      have o58 : M4 cy9 = some (.inr (6, [.int (iI (cK (w 19 (3 * m + y)))), .long (lI (cB (w 19 (3 * m + y)) (av y))), va_rf (cT σ (w 19 (3 * m + y)) (av y))])) := eM4 ▸ (zup_n (fun z9 => (fun z9 => hny9 z9.symm) z9.symm)).trans o48
      have o59 : M4 a8 = some (.inr (6, [.int (iI (cK (w 4 (w 28 (av x))))), .long (lI (cB (w 4 (w 28 (av x))) (w 31 (20 * av x + ((av y).toNat : Nat))))), va_rf (cT σ (w 4 (w 28 (av x))) (w 31 (20 * av x + ((av y).toNat : Nat))))])) := eM4 ▸ (zup_n (fun z9 => ne11 z9.symm)).trans o54
      have o60 : M4 ar = some (.inl (θ.2.1 11, 3, xQ g9)) := eM4 ▸ (zup_n ne4).trans o49
      have o61 : M4 (σ 32 (av x)) = some (e9) := eM4 ▸ (zup_n hno9).trans o50
      have hX62 : xM θ σ w (xL w) M4 := eM4 ▸ hX51.up hOf
      have fx63 : zFx out M M4 := eM4 ▸ fx52.up (Or.inr rfl)
      have o64 : M4 out = some (.inr (6, [.int (iI (gvK (w 17 (m)) (w 4 (xpI w (m) (x))) (cK (w 4 (w 28 (av x)))))), .long (lI (gvB (w 17 (m)) (w 4 (xpI w (m) (x))) (cK (w 4 (w 28 (av x)))) (cB (w 4 (w 28 (av x))) (w 31 (20 * av x + ((av y).toNat : Nat)))))), va_rf (gvT (w 17 (m)) (w 4 (xpI w (m) (x))) (cT σ (w 4 (w 28 (av x))) (w 31 (20 * av x + ((av y).toNat : Nat)))))])) := eM4 ▸ zup_s
      refine z_as (st' := []) rfl rfl rfl ?_
      exact z_vret C dX21_work_78 (Nat.le_of_ble_eq_true rfl) (Nat.le_of_ble_eq_true rfl) ⟨rfl, ⟨h0x9, hin9⟩, M4, rfl, hX62, o64, xKp.of fx63⟩
    · skip
      have c41b : (8 ≤ (w 4 (w 28 (av x))) ∧ (w 4 (w 28 (av x))) < w 0 0) := of_decide_eq_true c41
      refine z_bipush C 59 dX21_work_57 (by decide) rfl ?_
      refine z_goto C 66 dX21_work_59 (by decide) ?_
      refine z_aload C 68 4 dX21_work_66 rfl rfl ?_
      refine zx_callSN (As := [.ref (σ 32 (av x)), .int (iI (av y)), .int (iI (8)), .ref (a8)]) (rest := []) C hκ hκl hT 71 (k0_load hT hZ (σ 32 (av x)) (w 4 (w 28 (av x))) ((w 29 (av x)).toNat) ((fun j : Nat => w 31 (20 * av x + j))) (e9) (av y) (8) (a8) (4) (0) (none) hbR9 ⟨by decide, by decide⟩ o34 hr9 hvk9 (by omega) ⟨by omega, by omega⟩ o37) dX21_work_68 q1830 q1524 q90 q1525 (zNd_of znX0_load) (Nat.le_of_ble_eq_true rfl) (Nat.le_of_ble_eq_true rfl) (Nat.le_of_ble_eq_true rfl) (Nat.le_of_ble_eq_true rfl) rfl (Nat.le_of_ble_eq_true rfl) rfl (fun v9 Q9 h9 => ?_) (fun E9 b9 Q9 h9 => ?_)
      rotate_left 1
      · skip
        obtain ⟨cr65, hnr65, hcr65, er65, rfl⟩ := h9
        refine zx_out C hκ hT XX (fun z9 h9 => by cases h9) ⟨M2, cr65, rfl, hX35, (by have h7 := ld_ownI (i := av y) (ln := (w 29 (av x)).toNat) h00x9; rw [← (ld_c8 (σ := σ) (t := w 4 (w 28 (av x))) (b := 0) (by omega)).1] at h7; have h9 := hnr65; rw [h7] at h9; split at h9; (rename_i h8; exact ⟨(by omega), (by rw [if_neg (by omega)]; omega)⟩); exact absurd h9.symm hcr65), hcr65, Or.inr er65, xKp.of fx36⟩ (Nat.le_of_ble_eq_true rfl) (Nat.le_of_ble_eq_true rfl)
      obtain ⟨rfl, hnr66, rfl⟩ := h9
      obtain ⟨M5, eM5⟩ : ∃ z9 : zMap, zup M2 a8 (.inr (6, [.int (iI (8)), .long (lI (ldB (w 4 (w 28 (av x))) (8) ((fun j : Nat => w 31 (20 * av x + j)) (av y).toNat))), va_rf (ldT σ (8) ((fun j : Nat => w 31 (20 * av x + j)) (av y).toNat))]) : va_E) = z9 := ⟨_, rfl⟩
      rw [eM5]
      have o67 : M5 b = some (.inr (21, [.ref (σ 20 (m)), .ref (σ 0 (0)), .int (iI (x)), .ref (σ 0 (0)), .int (iI (y)), .ref (σ 0 (0))])) := eM5 ▸ (zup_n ne9).trans o28
      have o68 : M5 fr = some (.inr (26, [va_rf (xo σ 30 (xs)), .ref (ar), .ref (out), .int (iI (dp))])) := eM5 ▸ (zup_n ne10).trans o29
      have o69 : M5 out = some (.inr (6, [.int (iI (k1)), .long (lI (b1)), va_rf (t1)])) := eM5 ▸ (zup_n ne11).trans o30
      have o70 : M5 cx9 = some (.inr (6, [.int (iI (cK (w 19 (3 * m + x)))), .long (lI (cB (w 19 (3 * m + x)) (av x))), va_rf (cT σ (w 19 (3 * m + x)) (av x))])) := eM5 ▸ (zup_n ne12).trans o31
      have o71 : M5 cy9 = some (.inr (6, [.int (iI (cK (w 19 (3 * m + y)))), .long (lI (cB (w 19 (3 * m + y)) (av y))), va_rf (cT σ (w 19 (3 * m + y)) (av y))])) := eM5 ▸ (zup_n ne13).trans o32
      have o72 : M5 ar = some (.inl (θ.2.1 11, 3, xQ g9)) := eM5 ▸ (zup_n ne14).trans o33
      have o73 : M5 (σ 32 (av x)) = some (e9) := eM5 ▸ (zup_n ne15).trans o34
      have hX74 : xM θ σ w (xL w) M5 := eM5 ▸ hX35.up fr16
      have fx75 : zFx out M M5 := eM5 ▸ fx36.up (Or.inl no17)
      have o76 : M5 a8 = some (.inr (6, [.int (iI (8)), .long (lI (ldB (w 4 (w 28 (av x))) (8) ((fun j : Nat => w 31 (20 * av x + j)) (av y).toNat))), va_rf (ldT σ (8) ((fun j : Nat => w 31 (20 * av x + j)) (av y).toNat))])) := eM5 ▸ zup_s
      refine z_as (st' := []) rfl rfl rfl ?_
      refine z_widen (n' := 5) (k' := 231) (Nat.le_refl _) (Nat.le_refl _) ?_
      have hin9 : 0 ≤ av y ∧ av y < w 29 (av x) := by have h7 := ld_ownI (i := av y) (ln := (w 29 (av x)).toNat) h00x9; rw [← (ld_c8 (σ := σ) (t := w 4 (w 28 (av x))) (b := w 31 (20 * av x + ((av y).toNat : Nat))) (by omega)).1] at h7; have h9 := hnr66; rw [h7] at h9; split at h9; cases h9; rename_i h8; omega
      have o77 : M5 a8 = some (.inr (6, [.int (iI (cK (w 4 (w 28 (av x))))), .long (lI (cB (w 4 (w 28 (av x))) (w 31 (20 * av x + ((av y).toNat : Nat))))), va_rf (cT σ (w 4 (w 28 (av x))) (w 31 (20 * av x + ((av y).toNat : Nat))))])) := by obtain ⟨g1, g2, g3⟩ := ld_c8 (σ := σ) (t := w 4 (w 28 (av x))) (b := w 31 (20 * av x + ((av y).toNat : Nat))) (by omega); rw [← g2, ← g3, ← g1]; exact o76
      have hfz9 : ftB w (w 4 (w 28 (av x))) (w 31 (20 * av x + ((av y).toNat : Nat))) = true := hV.2.2.2.1 (av x) ((av y).toNat : Nat) h0x9 hz29 (by omega) (by omega) h99
      refine z_aload_n C 72 0 dX21_work_71 rfl rfl ?_
      refine z_aload_n C 73 1 dX21_work_72 rfl rfl ?_
      refine z_aload C 75 4 dX21_work_73 rfl rfl ?_
      refine z_callU (owner := RX10) (As := [.ref (fr), .ref (a8)]) (rest := []) C hκ hκl 78 (k10_gives_21 hX74 hs hw hT (b) (m) (x) (y) (fr) (xo σ 30 (xs)) (ar) (out) (dp) (k1) (b1) (t1) (a8) (cK (w 4 (w 28 (av x)))) (cB (w 4 (w 28 (av x))) (w 31 (20 * av x + ((av y).toNat : Nat)))) (cT σ (w 4 (w 28 (av x))) (w 31 (20 * av x + ((av y).toNat : Nat)))) o67 ⟨by omega, by omega⟩ r_x r_y r_dp o68 o69 hOf o77 ne11 (cK_nm h00x9 (hw.l _ _) hfz9) ⟨by omega, by omega⟩ (by omega)) dX21_work_75 q1831 q1832 q1833 q1786 q104 q1787 rfl ⟨by decide, by decide, rfl⟩ (Nat.le_of_ble_eq_true rfl) (Nat.le_of_ble_eq_true rfl) (Nat.le_of_ble_eq_true rfl) (Nat.le_of_ble_eq_true rfl) (zrec_P o67) rfl rfl (Nat.le_of_ble_eq_true rfl) rfl (fun v9 Q9 h9 => ?_)
      obtain ⟨rfl, rfl⟩ := h9
      obtain ⟨M6, eM6⟩ : ∃ z9 : zMap, zup M5 out (.inr (6, [.int (iI (gvK (w 17 (m)) (w 4 (xpI w (m) (x))) (cK (w 4 (w 28 (av x)))))), .long (lI (gvB (w 17 (m)) (w 4 (xpI w (m) (x))) (cK (w 4 (w 28 (av x)))) (cB (w 4 (w 28 (av x))) (w 31 (20 * av x + ((av y).toNat : Nat)))))), va_rf (gvT (w 17 (m)) (w 4 (xpI w (m) (x))) (cT σ (w 4 (w 28 (av x))) (w 31 (20 * av x + ((av y).toNat : Nat)))))]) : va_E) = z9 := ⟨_, rfl⟩
      rw [eM6]
      have o78 : M6 b = some (.inr (21, [.ref (σ 20 (m)), .ref (σ 0 (0)), .int (iI (x)), .ref (σ 0 (0)), .int (iI (y)), .ref (σ 0 (0))])) := eM6 ▸ (zup_n ne2).trans o67
      have o79 : M6 fr = some (.inr (26, [va_rf (xo σ 30 (xs)), .ref (ar), .ref (out), .int (iI (dp))])) := eM6 ▸ (zup_n ne3).trans o68
      have o80 : M6 cx9 = some (.inr (6, [.int (iI (cK (w 19 (3 * m + x)))), .long (lI (cB (w 19 (3 * m + x)) (av x))), va_rf (cT σ (w 19 (3 * m + x)) (av x))])) := eM6 ▸ (zup_n (fun z9 => (fun z9 => hnx9 z9.symm) z9.symm)).trans o70
      have o81 : M6 cy9 = some (.inr (6, [.int (iI (cK (w 19 (3 * m + y)))), .long (lI (cB (w 19 (3 * m + y)) (av y))), va_rf (cT σ (w 19 (3 * m + y)) (av y))])) := eM6 ▸ (zup_n (fun z9 => (fun z9 => hny9 z9.symm) z9.symm)).trans o71
      have o82 : M6 a8 = some (.inr (6, [.int (iI (cK (w 4 (w 28 (av x))))), .long (lI (cB (w 4 (w 28 (av x))) (w 31 (20 * av x + ((av y).toNat : Nat))))), va_rf (cT σ (w 4 (w 28 (av x))) (w 31 (20 * av x + ((av y).toNat : Nat))))])) := eM6 ▸ (zup_n (fun z9 => ne11 z9.symm)).trans o77
      have o83 : M6 ar = some (.inl (θ.2.1 11, 3, xQ g9)) := eM6 ▸ (zup_n ne4).trans o72
      have o84 : M6 (σ 32 (av x)) = some (e9) := eM6 ▸ (zup_n hno9).trans o73
      have hX85 : xM θ σ w (xL w) M6 := eM6 ▸ hX74.up hOf
      have fx86 : zFx out M M6 := eM6 ▸ fx75.up (Or.inr rfl)
      have o87 : M6 out = some (.inr (6, [.int (iI (gvK (w 17 (m)) (w 4 (xpI w (m) (x))) (cK (w 4 (w 28 (av x)))))), .long (lI (gvB (w 17 (m)) (w 4 (xpI w (m) (x))) (cK (w 4 (w 28 (av x)))) (cB (w 4 (w 28 (av x))) (w 31 (20 * av x + ((av y).toNat : Nat)))))), va_rf (gvT (w 17 (m)) (w 4 (xpI w (m) (x))) (cT σ (w 4 (w 28 (av x))) (w 31 (20 * av x + ((av y).toNat : Nat)))))])) := eM6 ▸ zup_s
      refine z_as (st' := []) rfl rfl rfl ?_
      exact z_vret C dX21_work_78 (Nat.le_of_ble_eq_true rfl) (Nat.le_of_ble_eq_true rfl) ⟨rfl, ⟨h0x9, hin9⟩, M6, rfl, hX85, o87, xKp.of fx86⟩
