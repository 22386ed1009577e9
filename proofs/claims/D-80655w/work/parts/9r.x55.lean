/-! ===== bodies at work, one by one ===== -/
set_option maxRecDepth 100000 in
theorem k10_work_11 {l : Launch} {θ : zTh} {σ : xA} {w : mW} {M N : zMap} (hX : xM θ σ w (xL w) M) (hs : xS w) (hw : mWF w) (hT : zTb θ) (b : Nat) (m : Int) (fr : Nat) (xs : Int) (ar : Nat) (out : Nat) (dp : Int) (k1 : Int) (b1 : Int) (t1 : Option Nat)  (hb : M b = some (.inr (11, [.ref (σ 20 (m)), .ref (σ 0 (0)), .ref (σ 0 (0))]))) (hm : 0 ≤ m ∧ m < w 11 0) (r_dp : inR dp) (hFr : M fr = some (.inr (26, [va_rf (xo σ 30 (xs)), .ref (ar), .ref (out), .int (iI (dp))]))) (hO : M out = some (.inr (6, [.int (iI (k1)), .long (lI (b1)), va_rf (t1)]))) (hOf : xFr σ w (xL w) out) (hxs : -1 ≤ xs ∧ xs < w 27 0) : ZM θ l yX10_work cX10_work 2 none ⟨2, 0, 0, 41⟩ [.ref (b), .ref (fr)] (zP θ M N) (fun v9 Q9 => v9 = none ∧ ∃ M' : zMap, Q9 = zP θ M' N ∧ xM θ σ w (xL w) M' ∧ M' out = some (.inr (6, [.int (iI (clK (w 17 m))), .long (lI (0)), .null])) ∧ xKp σ w out M M') := by
  refine z_start (own := RX10) (nm := "work") pnX10 rfl rfl (Nat.le_of_ble_eq_true rfl) ?_
  intro κ hκ hκl C
  change Z κ (zP θ M N) 0 0 0 [(0, .ref (b)), (1, .ref (fr))] []
  have hS := hs.S
  have hB := hS.B
  obtain ⟨hB1, hB2, hB3, hB4, hB5, hB6⟩ := hS.B
  have hC := hS.C
  obtain ⟨h81, h82⟩ := hs.r8
  obtain ⟨f1a, f1b, f1c, f1d⟩ := hS.M (show 0 ≤ m by omega) (by omega)
  have ne2 : b ≠ out := fun z9 => by have z8 := hb; rw [z9, hO] at z8; cases z8
  have ne3 : fr ≠ out := fun z9 => by have z8 := hFr; rw [z9, hO] at z8; cases z8
  have fx09 : zFx out M M := zFx.rf
  have k17 : -1 ≤ w 17 m := by omega
  refine z_aload_n C 1 1 dX10_work_0 rfl rfl ?_
  refine z_getf C hκ (v := .ref (out)) 4 2 zk_X26 hFr (by decide) q1750 (Or.inl rfl) rfl dX10_work_1 rfl ?_
  refine z_aload_n C 5 0 dX10_work_4 rfl rfl ?_
  refine z_getf C hκ (v := .ref (σ 20 (m))) 8 0 zk_X11 hb (by decide) q772 (Or.inl rfl) rfl dX10_work_5 rfl ?_
  refine z_getf C hκ (v := va_rf (xo σ 10 (w 17 (m)))) 11 5 zk_X9 (hX.mem (by omega) (by omega)) (by decide) q671 (Or.inl rfl) rfl dX10_work_8 rfl ?_
  refine z_callV (As := [va_rf (xo σ 10 (w 17 (m)))]) (rest := []) C hκ hκl 14 (k6_clear hX hs hw hT (out) (k1) (b1) (t1) (w 17 (m)) hO ⟨by omega, by omega⟩) dX10_work_11 q1788 q1789 q1790 q96 q1791 znX6_clear (Nat.le_of_ble_eq_true rfl) (Nat.le_of_ble_eq_true rfl) (Nat.le_of_ble_eq_true rfl) (Nat.le_of_ble_eq_true rfl) (zrec_P hO) rfl rfl (Nat.le_of_ble_eq_true rfl) rfl (fun v9 Q9 h9 => ?_)
  obtain ⟨rfl, rfl⟩ := h9
  obtain ⟨M1, eM1⟩ : ∃ z9 : zMap, zup M out (.inr (6, [.int (iI (clK (w 17 (m)))), .long (lI (0)), .null]) : va_E) = z9 := ⟨_, rfl⟩
  rw [eM1]
  have o4 : M1 b = some (.inr (11, [.ref (σ 20 (m)), .ref (σ 0 (0)), .ref (σ 0 (0))])) := eM1 ▸ (zup_n ne2).trans hb
  have o5 : M1 fr = some (.inr (26, [va_rf (xo σ 30 (xs)), .ref (ar), .ref (out), .int (iI (dp))])) := eM1 ▸ (zup_n ne3).trans hFr
  have hX6 : xM θ σ w (xL w) M1 := eM1 ▸ hX.up hOf
  have fx7 : zFx out M M1 := eM1 ▸ fx09.up (Or.inr rfl)
  have o8 : M1 out = some (.inr (6, [.int (iI (clK (w 17 (m)))), .long (lI (0)), .null])) := eM1 ▸ zup_s
  refine z_as (st' := []) rfl rfl rfl ?_
  exact z_vret C dX10_work_14 (Nat.le_of_ble_eq_true rfl) (Nat.le_of_ble_eq_true rfl) ⟨rfl, M1, rfl, hX6, o8, xKp.of fx7⟩
set_option maxRecDepth 100000 in
theorem k12_work_12 {l : Launch} {θ : zTh} {σ : xA} {w : mW} {M N : zMap} (hX : xM θ σ w (xL w) M) (hs : xS w) (hw : mWF w) (hT : zTb θ) (b : Nat) (m : Int) (x : Int) (fr : Nat) (xs : Int) (ar : Nat) (out : Nat) (dp : Int) (k1 : Int) (b1 : Int) (t1 : Option Nat) (av : Int → Int)  (hb : M b = some (.inr (12, [.ref (σ 20 (m)), .ref (σ 0 (0)), .int (iI (x)), .ref (σ 0 (0))]))) (hm : 0 ≤ m ∧ m < w 11 0) (r_x : inR x) (r_dp : inR dp) (hFr : M fr = some (.inr (26, [va_rf (xo σ 30 (xs)), .ref (ar), .ref (out), .int (iI (dp))]))) (hO : M out = some (.inr (6, [.int (iI (k1)), .long (lI (b1)), va_rf (t1)]))) (hOf : xFr σ w (xL w) out) (hxs : -1 ≤ xs ∧ xs < w 27 0) (hip : 0 ≤ x ∧ x < w 18 m) (hA : xArg σ w θ m av M ar out) (hAL : ∀ j, inL (av j)) : ZM θ l yX12_work cX12_work 2 none ⟨5, 0, 0, 125⟩ [.ref (b), .ref (fr)] (zP θ M N) (fun v9 Q9 => v9 = none ∧ ∃ M' : zMap, Q9 = zP θ M' N ∧ xM θ σ w (xL w) M' ∧ M' out = some (.inr (6, [.int (iI (gvK (w 17 m) (xpI w m x) (cK (w 19 (3 * m + x))))), .long (lI (gvB (w 17 m) (xpI w m x) (cK (w 19 (3 * m + x))) (cB (w 19 (3 * m + x)) (av x)))), va_rf (gvT (w 17 m) (xpI w m x) (cT σ (w 19 (3 * m + x)) (av x)))])) ∧ xKp σ w out M M') := by
  refine z_start (own := RX12) (nm := "work") pnX12 rfl rfl (Nat.le_of_ble_eq_true rfl) ?_
  intro κ hκ hκl C
  change Z κ (zP θ M N) 0 0 0 [(0, .ref (b)), (1, .ref (fr))] []
  have hS := hs.S
  have hB := hS.B
  obtain ⟨hB1, hB2, hB3, hB4, hB5, hB6⟩ := hS.B
  have hC := hS.C
  obtain ⟨h81, h82⟩ := hs.r8
  obtain ⟨f1a, f1b, f1c, f1d⟩ := hS.M (show 0 ≤ m by omega) (by omega)
  obtain ⟨g9, hg9, hA9⟩ := hA
  have ne2 : b ≠ out := fun z9 => by have z8 := hb; rw [z9, hO] at z8; cases z8
  have ne3 : fr ≠ out := fun z9 => by have z8 := hFr; rw [z9, hO] at z8; cases z8
  have ne4 : ar ≠ out := fun z9 => by have z8 := hg9; rw [z9, hO] at z8; cases z8
  have fx09 : zFx out M M := zFx.rf
  have k17 : -1 ≤ w 17 m := by omega
  have hpx := xpI_r hS (i := x) hm.1 hm.2
  have hex9 : ((x.toNat : Nat) : Int) = x := by omega
  obtain ⟨cx9, hgx9, hnx9, hcx9, hagx9⟩ := hA9 x.toNat (by omega)
  rw [hex9] at hcx9 hagx9
  have hprx9 := (hS.M hm.1 hm.2).2.2.2 x (by omega) (by omega)
  have hkcx9 := cK_r (t := w 19 (3 * m + x)) (by omega)
  have hbcx9 : inL (cB (w 19 (3 * m + x)) (av x)) := cB_L (hAL _)
  have hftx9 : ftB w (w 19 (3 * m + x)) (av x) = true := by unfold agB at hagx9; rw [Bool.and_eq_true] at hagx9; exact hagx9.1
  have hnmx9 : nmOk (cK (w 19 (3 * m + x))) (cB (w 19 (3 * m + x)) (av x)) := cK_nm (by omega) (hAL _) hftx9
  refine z_aload_n C 1 0 dX12_work_0 rfl rfl ?_
  refine z_aload_n C 2 1 dX12_work_1 rfl rfl ?_
  refine z_aload_n C 3 1 dX12_work_2 rfl rfl ?_
  refine z_getf C hκ (v := .ref (ar)) 6 1 zk_X26 hFr (by decide) q1745 (Or.inl rfl) rfl dX12_work_3 rfl ?_
  refine z_aload_n C 7 0 dX12_work_6 rfl rfl ?_
  refine z_getf C hκ (v := .int (iI (x))) 10 2 zk_X12 hb (by decide) q810 (Or.inl rfl) rfl dX12_work_7 rfl ?_
  refine z_qald C hκ 11 11 hg9 rfl (by omega) (by omega) (by decide) (congrArg va_rf hgx9) dX12_work_10 rfl ?_
  refine z_as (st' := [.ref (cx9), .ref (fr), .ref (b)]) rfl rfl rfl ?_
  refine z_callU (owner := RX10) (As := [.ref (fr), .ref (cx9)]) (rest := []) C hκ hκl 14 (k10_gives_12 hX hs hw hT (b) (m) (x) (fr) (xo σ 30 (xs)) (ar) (out) (dp) (k1) (b1) (t1) (cx9) (cK (w 19 (3 * m + x))) (cB (w 19 (3 * m + x)) (av x)) (cT σ (w 19 (3 * m + x)) (av x)) hb ⟨by omega, by omega⟩ r_x r_dp hFr hO hOf hcx9 (fun z9 => hnx9 z9.symm) hnmx9 ⟨by omega, by omega⟩) dX12_work_11 q1837 q1838 q1841 q1786 q104 q1787 rfl ⟨by decide, by decide, rfl⟩ (Nat.le_of_ble_eq_true rfl) (Nat.le_of_ble_eq_true rfl) (Nat.le_of_ble_eq_true rfl) (Nat.le_of_ble_eq_true rfl) (zrec_P hb) rfl rfl (Nat.le_of_ble_eq_true rfl) rfl (fun v9 Q9 h9 => ?_)
  obtain ⟨rfl, rfl⟩ := h9
  obtain ⟨M1, eM1⟩ : ∃ z9 : zMap, zup M out (.inr (6, [.int (iI (gvK (w 17 (m)) (xpI w (m) (x)) (cK (w 19 (3 * m + x))))), .long (lI (gvB (w 17 (m)) (xpI w (m) (x)) (cK (w 19 (3 * m + x))) (cB (w 19 (3 * m + x)) (av x)))), va_rf (gvT (w 17 (m)) (xpI w (m) (x)) (cT σ (w 19 (3 * m + x)) (av x)))]) : va_E) = z9 := ⟨_, rfl⟩
  rw [eM1]
  have o5 : M1 b = some (.inr (12, [.ref (σ 20 (m)), .ref (σ 0 (0)), .int (iI (x)), .ref (σ 0 (0))])) := eM1 ▸ (zup_n ne2).trans hb
  have o6 : M1 fr = some (.inr (26, [va_rf (xo σ 30 (xs)), .ref (ar), .ref (out), .int (iI (dp))])) := eM1 ▸ (zup_n ne3).trans hFr
  have o7 : M1 cx9 = some (.inr (6, [.int (iI (cK (w 19 (3 * m + x)))), .long (lI (cB (w 19 (3 * m + x)) (av x))), va_rf (cT σ (w 19 (3 * m + x)) (av x))])) := eM1 ▸ (zup_n (fun z9 => (fun z9 => hnx9 z9.symm) z9.symm)).trans hcx9
  have o8 : M1 ar = some (.inl (θ.2.1 11, 3, xQ g9)) := eM1 ▸ (zup_n ne4).trans hg9
  have hX9 : xM θ σ w (xL w) M1 := eM1 ▸ hX.up hOf
  have fx10 : zFx out M M1 := eM1 ▸ fx09.up (Or.inr rfl)
  have o11 : M1 out = some (.inr (6, [.int (iI (gvK (w 17 (m)) (xpI w (m) (x)) (cK (w 19 (3 * m + x))))), .long (lI (gvB (w 17 (m)) (xpI w (m) (x)) (cK (w 19 (3 * m + x))) (cB (w 19 (3 * m + x)) (av x)))), va_rf (gvT (w 17 (m)) (xpI w (m) (x)) (cT σ (w 19 (3 * m + x)) (av x)))])) := eM1 ▸ zup_s
  refine z_as (st' := []) rfl rfl rfl ?_
  exact z_vret C dX12_work_14 (Nat.le_of_ble_eq_true rfl) (Nat.le_of_ble_eq_true rfl) ⟨rfl, M1, rfl, hX9, o11, xKp.of fx10⟩
set_option maxRecDepth 100000 in
theorem k13_work_13 {l : Launch} {θ : zTh} {σ : xA} {w : mW} {M N : zMap} (hX : xM θ σ w (xL w) M) (hs : xS w) (hw : mWF w) (hT : zTb θ) (hZ : zTx θ l) (b : Nat) (m : Int) (f : Int) (fr : Nat) (xs : Int) (ar : Nat) (out : Nat) (dp : Int) (k1 : Int) (b1 : Int) (t1 : Option Nat)  (hb : M b = some (.inr (13, [.ref (σ 20 (m)), .ref (σ 0 (0)), va_rf (xo σ 20 (f)), .ref (σ 0 (0))]))) (hm : 0 ≤ m ∧ m < w 11 0) (hf : -1 ≤ f ∧ f < w 11 0) (r_dp : inR dp) (hFr : M fr = some (.inr (26, [va_rf (xo σ 30 (xs)), .ref (ar), .ref (out), .int (iI (dp))]))) (hO : M out = some (.inr (6, [.int (iI (k1)), .long (lI (b1)), va_rf (t1)]))) (hOf : xFr σ w (xL w) out) (hxs : -1 ≤ xs ∧ xs < w 27 0) (hf0 : 0 ≤ f) (hfd : w 16 f = 1) (hF : xFd w) (hag : agI w f xs = 0) (hV : mV w) : zMX θ l yX13_work (ws_ yX13_work cX13_work 3 none) ⟨11, 8, 260, 10293⟩ [.ref (b), .ref (fr)] (zP θ M N) (fun v9 Q9 => v9 = none ∧ ∃ M' : zMap, Q9 = zP θ M' N ∧ xM θ σ w (xL w) M' ∧ M' out = some (.inr (6, [.int (iI (gvK (w 17 m) (w 17 f) (cK (w 17 f)))), .long (lI (gvB (w 17 m) (w 17 f) (cK (w 17 f)) (cB (w 17 f) (fvL w f xs)))), va_rf (gvT (w 17 m) (w 17 f) (cT σ (w 17 f) (fvL w f xs)))])) ∧ xKp σ w out M M') (fun E9 b9 Q9 => ∃ (M' : zMap) (c9 : Int), Q9 = zP θ M' N ∧ xM θ σ w (xL w) M' ∧ False ∧ c9 ≠ 0 ∧ xEx M' b9 E9 c9 ∧ xKp σ w out M M') := by
  refine zx_start (own := RX13) (nm := "work") pnX13 rfl rfl (Nat.le_of_ble_eq_true rfl) ?_
  intro κ hκ hκl C XX
  change Z κ (zP θ M N) 0 0 0 [(0, .ref (b)), (1, .ref (fr))] []
  have hS := hs.S
  have hB := hS.B
  obtain ⟨hB1, hB2, hB3, hB4, hB5, hB6⟩ := hS.B
  have hC := hS.C
  obtain ⟨h81, h82⟩ := hs.r8
  obtain ⟨f1a, f1b, f1c, f1d⟩ := hS.M (show 0 ≤ m by omega) (by omega)
  have ne2 : b ≠ out := fun z9 => by have z8 := hb; rw [z9, hO] at z8; cases z8
  have ne3 : fr ≠ out := fun z9 => by have z8 := hFr; rw [z9, hO] at z8; cases z8
  have fx09 : zFx out M M := zFx.rf
  have k17 : -1 ≤ w 17 m := by omega
  obtain ⟨f4a, f4b, f4c, f4d⟩ := hS.M (show 0 ≤ f by omega) (by omega)
  obtain ⟨e9, he9, hr9⟩ := xM.fld hX hs hF ⟨hf0, hf.2⟩ hfd hxs hag
  have hvk9 := fv_ok hs hw hV ⟨hf0, hf.2⟩ hfd hxs hag
  have h179 := hV.2.2.2.2 f hf0 hf.2 hfd
  have hkf9 := cK_r h179
  have hno9 : rwA σ w f xs ≠ out := fun z9 => by rw [z9] at he9; rw [hO] at he9; rcases hr9 with ⟨_, _, _, h, _⟩ | ⟨_, _, h, _⟩ | ⟨_, _, h, _⟩ | ⟨_, _, h, _⟩ | ⟨_, _, h, _⟩ <;> (rw [h] at he9; cases he9)
  obtain ⟨f5a, f5b, f5c, f5d, f5e, f5f, f5g, f5h⟩ := hS.T (show 0 ≤ w 17 f by omega) (by omega)
  obtain ⟨f5i, f5j, f5k, f5l⟩ := hs.ty (show 0 ≤ w 17 f by omega) (by omega)
  refine z_new (fs := [.int (iI (0)), .long (lI (0)), .null]) C hκ 3 zk_X6 q1846 q241 q96 (fun j9 h9 => match j9, h9 with | 0, _ => rfl | 1, _ => rfl | 2, _ => rfl | (j9 + 3), h9 => absurd h9 (by omega)) (Nat.le_of_ble_eq_true rfl) (Nat.le_of_ble_eq_true rfl) dX13_work_0 rfl (fun a6 a6M a6N => ?_)
  refine z_widen (n' := 1) (k' := 3) (Nat.le_refl _) (Nat.le_refl _) ?_
  have ne7 : b ≠ a6 := fun z9 => by have z8 := hb; rw [z9, a6M] at z8; cases z8
  have ne8 : fr ≠ a6 := fun z9 => by have z8 := hFr; rw [z9, a6M] at z8; cases z8
  have ne9 : out ≠ a6 := fun z9 => by have z8 := hO; rw [z9, a6M] at z8; cases z8
  have ne10 : rwA σ w f xs ≠ a6 := fun z9 => by have z8 := he9; rw [z9, a6M] at z8; cases z8
  have fr11 : xFr σ w (xL w) a6 := hX.fr a6M
  have no12 : M a6 = none := fx09.no a6M (fun z9 => ne9 z9.symm)
  obtain ⟨M1, eM1⟩ : ∃ z9 : zMap, zup M a6 (.inr (6, [.int (iI (0)), .long (lI (0)), .null]) : va_E) = z9 := ⟨_, rfl⟩
  rw [eM1]
  have o13 : M1 b = some (.inr (13, [.ref (σ 20 (m)), .ref (σ 0 (0)), va_rf (xo σ 20 (f)), .ref (σ 0 (0))])) := eM1 ▸ (zup_n ne7).trans hb
  have o14 : M1 fr = some (.inr (26, [va_rf (xo σ 30 (xs)), .ref (ar), .ref (out), .int (iI (dp))])) := eM1 ▸ (zup_n ne8).trans hFr
  have o15 : M1 out = some (.inr (6, [.int (iI (k1)), .long (lI (b1)), va_rf (t1)])) := eM1 ▸ (zup_n ne9).trans hO
  have o16 : M1 (rwA σ w f xs) = some (e9) := eM1 ▸ (zup_n ne10).trans he9
  have hX17 : xM θ σ w (xL w) M1 := eM1 ▸ hX.up fr11
  have fx18 : zFx out M M1 := eM1 ▸ fx09.up (Or.inl no12)
  have o19 : M1 a6 = some (.inr (6, [.int (iI (0)), .long (lI (0)), .null])) := eM1 ▸ zup_s
  refine z_dup C 4 dX13_work_3 rfl rfl ?_
  refine z_callIN (As := []) (rest := [.ref (a6)]) C hκ hκl hT 7 (k6_init_6 hT (a6) o19) dX13_work_4 q1847 q243 q96 q244 (zNd_of znX6_init) rfl (Nat.le_of_ble_eq_true rfl) (Nat.le_of_ble_eq_true rfl) (Nat.le_of_ble_eq_true rfl) (Nat.le_of_ble_eq_true rfl) rfl (Nat.le_of_ble_eq_true rfl) rfl (fun v9 Q9 h9 => ?_)
  obtain ⟨rfl, rfl⟩ := h9
  obtain ⟨M2, eM2⟩ : ∃ z9 : zMap, zup M1 a6 (.inr (6, [.int (iI (4)), .long (lI (0)), .null]) : va_E) = z9 := ⟨_, rfl⟩
  rw [eM2]
  have o20 : M2 b = some (.inr (13, [.ref (σ 20 (m)), .ref (σ 0 (0)), va_rf (xo σ 20 (f)), .ref (σ 0 (0))])) := eM2 ▸ (zup_n ne7).trans o13
  have o21 : M2 fr = some (.inr (26, [va_rf (xo σ 30 (xs)), .ref (ar), .ref (out), .int (iI (dp))])) := eM2 ▸ (zup_n ne8).trans o14
  have o22 : M2 out = some (.inr (6, [.int (iI (k1)), .long (lI (b1)), va_rf (t1)])) := eM2 ▸ (zup_n ne9).trans o15
  have o23 : M2 (rwA σ w f xs) = some (e9) := eM2 ▸ (zup_n ne10).trans o16
  have hX24 : xM θ σ w (xL w) M2 := eM2 ▸ hX17.up fr11
  have fx25 : zFx out M M2 := eM2 ▸ fx18.up (Or.inl no12)
  have o26 : M2 a6 = some (.inr (6, [.int (iI (4)), .long (lI (0)), .null])) := eM2 ▸ zup_s
  refine z_as (st' := [.ref (a6)]) rfl rfl rfl ?_
  refine z_astore_n (lv' := [(0, .ref (b)), (1, .ref (fr)), (2, .ref (a6))]) C 8 [1, 2, 0] dX13_work_7 (by decide) rfl rfl ?_
  refine z_aload_n C 9 0 dX13_work_8 rfl rfl ?_
  refine z_aload_n C 10 1 dX13_work_9 rfl rfl ?_
  refine z_callV (As := [.ref (fr)]) (rest := []) C hκ hκl 13 (k13_place_13 hX24 hs hw hT (b) (m) (f) (fr) (xs) (ar) (out) (dp) o20 ⟨by omega, by omega⟩ ⟨by omega, by omega⟩ r_dp o21 hxs hf0 hfd hF hag) dX13_work_10 q1848 q1849 q1850 q107 q1853 znX13_place (Nat.le_of_ble_eq_true rfl) (Nat.le_of_ble_eq_true rfl) (Nat.le_of_ble_eq_true rfl) (Nat.le_of_ble_eq_true rfl) (zrec_P o20) rfl rfl (Nat.le_of_ble_eq_true rfl) rfl (fun v9 Q9 h9 => ?_)
  obtain ⟨rfl, rfl⟩ := h9
  refine z_as (st' := [.ref (rwA σ w (f) (xs))]) rfl rfl rfl ?_
  refine z_iconst C 14 dX13_work_13 rfl ?_
  refine z_aload_n C 15 0 dX13_work_14 rfl rfl ?_
  refine z_getf C hκ (v := va_rf (xo σ 20 (f))) 18 2 zk_X13 o20 (by decide) q829 (Or.inl rfl) rfl dX13_work_15 rfl ?_
  have y27 : 0 ≤ f := (by omega)
  rw [xo_y y27]
  refine z_as (st' := [.ref (σ 20 (f)), .int (iI (0)), .ref (rwA σ w (f) (xs))]) (lv' := [(0, .ref (b)), (1, .ref (fr)), (2, .ref (a6))]) rfl rfl rfl ?_
  refine z_getf C hκ (v := va_rf (xo σ 10 (w 17 (f)))) 21 5 zk_X9 (hX24.mem (by omega) (by omega)) (by decide) q669 (Or.inl rfl) rfl dX13_work_18 rfl ?_
  have y28 : 0 ≤ w 17 (f) := (by omega)
  rw [xo_y y28]
  refine z_as (st' := [.ref (σ 10 (w 17 (f))), .int (iI (0)), .ref (rwA σ w (f) (xs))]) (lv' := [(0, .ref (b)), (1, .ref (fr)), (2, .ref (a6))]) rfl rfl rfl ?_
  obtain ⟨f29a, f29b, f29c, f29d, f29e, f29f, f29g, f29h⟩ := hS.T (show 0 ≤ w 17 (f) by omega) (by omega)
  obtain ⟨f29i, f29j, f29k, f29l⟩ := hs.ty (show 0 ≤ w 17 (f) by omega) (by omega)
  refine xv_isReference (rest := [.int (iI (0)), .ref (rwA σ w (f) (xs))]) C hκ hκl hX24 hs hw hT (w 17 (f))   ⟨(by omega), (by omega)⟩  24 dX13_work_21 q1855 (Nat.le_of_ble_eq_true rfl) (Nat.le_of_ble_eq_true rfl) (Nat.le_of_ble_eq_true rfl) (Nat.le_of_ble_eq_true rfl) (Nat.le_of_ble_eq_true rfl) rfl ?_
  refine z_as (st' := [.int (iI (bI (rfB w (w 17 (f))))), .int (iI (0)), .ref (rwA σ w (f) (xs))]) rfl rfl rfl ?_
  refine z_ifB_eq C 32 27 dX13_work_24 (by decide) rfl (fun c30 => ?_) (fun c30 => ?_)
  · skip
    have c30b : ¬ (8 ≤ (w 17 (f)) ∧ (w 17 (f)) < w 0 0) := of_decide_eq_false c30
    refine z_aload_n C 33 0 dX13_work_32 rfl rfl ?_
    refine z_getf C hκ (v := va_rf (xo σ 20 (f))) 36 2 zk_X13 o20 (by decide) q829 (Or.inl rfl) rfl dX13_work_33 rfl ?_
    have y31 : 0 ≤ f := (by omega)
    rw [xo_y y31]
    refine z_as (st' := [.ref (σ 20 (f)), .int (iI (0)), .ref (rwA σ w (f) (xs))]) (lv' := [(0, .ref (b)), (1, .ref (fr)), (2, .ref (a6))]) rfl rfl rfl ?_
    refine z_getf C hκ (v := va_rf (xo σ 10 (w 17 (f)))) 39 5 zk_X9 (hX24.mem (by omega) (by omega)) (by decide) q669 (Or.inl rfl) rfl dX13_work_36 rfl ?_
    have y32 : 0 ≤ w 17 (f) := (by omega)
    rw [xo_y y32]
    refine z_as (st' := [.ref (σ 10 (w 17 (f))), .int (iI (0)), .ref (rwA σ w (f) (xs))]) (lv' := [(0, .ref (b)), (1, .ref (fr)), (2, .ref (a6))]) rfl rfl rfl ?_
    refine xv_number (rest := [.int (iI (0)), .ref (rwA σ w (f) (xs))]) C hκ hκl hX24 hs hw hT (w 17 (f))   ⟨(by omega), (by omega)⟩  42 dX13_work_39 q1856 (Nat.le_of_ble_eq_true rfl) (Nat.le_of_ble_eq_true rfl) (Nat.le_of_ble_eq_true rfl) (Nat.le_of_ble_eq_true rfl) (Nat.le_of_ble_eq_true rfl) rfl ?_
    refine z_as (st' := [.int (iI ((w 17 (f)))), .int (iI (0)), .ref (rwA σ w (f) (xs))]) rfl rfl rfl ?_
    refine z_aload_n C 43 2 dX13_work_42 rfl rfl ?_
    refine zx_callSN (As := [.ref (rwA σ w (f) (xs)), .int (iI (0)), .int (iI ((w 17 (f)))), .ref (a6)]) (rest := []) C hκ hκl hT 46 (k0_load hT hZ (rwA σ w (f) (xs)) (w 17 f) (1) ((fun _ => fvL w f xs)) (e9) (0) ((w 17 (f))) (a6) (4) (0) (none) ⟨by decide, by decide⟩ ⟨by omega, by omega⟩ o23 hr9 (fun _ _ => hvk9) (by decide) ⟨by omega, by omega⟩ o26) dX13_work_43 q1857 q1524 q90 q1525 (zNd_of znX0_load) (Nat.le_of_ble_eq_true rfl) (Nat.le_of_ble_eq_true rfl) (Nat.le_of_ble_eq_true rfl) (Nat.le_of_ble_eq_true rfl) rfl (Nat.le_of_ble_eq_true rfl) rfl (fun v9 Q9 h9 => ?_) (fun E9 b9 Q9 h9 => ?_)
    rotate_left 1
    · skip
      obtain ⟨cr33, hnr33, hcr33, er33, rfl⟩ := h9
      refine zx_out C hκ hT XX (fun z9 h9 => by cases h9) (by exfalso; have h9 := hnr33; have h8 := ld_own h179; first | (rw [← (ld_c8 (σ := σ) (t := w 17 f) (b := 0) (by omega)).1] at h8; exact hcr33 (h9.symm.trans h8)) | (rw [← (ld_cp (σ := σ) (t := w 17 f) (b := 0) (by omega)).1] at h8; exact hcr33 (h9.symm.trans h8))) (Nat.le_of_ble_eq_true rfl) (Nat.le_of_ble_eq_true rfl)
    obtain ⟨rfl, hnr34, rfl⟩ := h9
    obtain ⟨M3, eM3⟩ : ∃ z9 : zMap, zup M2 a6 (.inr (6, [.int (iI ((w 17 (f)))), .long (lI (ldB (w 17 f) ((w 17 (f))) ((fun _ => fvL w f xs) (0 : Int).toNat))), va_rf (ldT σ ((w 17 (f))) ((fun _ => fvL w f xs) (0 : Int).toNat))]) : va_E) = z9 := ⟨_, rfl⟩
    rw [eM3]
    have o35 : M3 b = some (.inr (13, [.ref (σ 20 (m)), .ref (σ 0 (0)), va_rf (xo σ 20 (f)), .ref (σ 0 (0))])) := eM3 ▸ (zup_n ne7).trans o20
    have o36 : M3 fr = some (.inr (26, [va_rf (xo σ 30 (xs)), .ref (ar), .ref (out), .int (iI (dp))])) := eM3 ▸ (zup_n ne8).trans o21
    have o37 : M3 out = some (.inr (6, [.int (iI (k1)), .long (lI (b1)), va_rf (t1)])) := eM3 ▸ (zup_n ne9).trans o22
    have o38 : M3 (rwA σ w f xs) = some (e9) := eM3 ▸ (zup_n ne10).trans o23
    have hX39 : xM θ σ w (xL w) M3 := eM3 ▸ hX24.up fr11
    have fx40 : zFx out M M3 := eM3 ▸ fx25.up (Or.inl no12)
    have o41 : M3 a6 = some (.inr (6, [.int (iI ((w 17 (f)))), .long (lI (ldB (w 17 f) ((w 17 (f))) ((fun _ => fvL w f xs) (0 : Int).toNat))), va_rf (ldT σ ((w 17 (f))) ((fun _ => fvL w f xs) (0 : Int).toNat))])) := eM3 ▸ zup_s
    refine z_as (st' := []) rfl rfl rfl ?_
    refine z_widen (n' := 5) (k' := 231) (Nat.le_refl _) (Nat.le_refl _) ?_
    have o42 : M3 a6 = some (.inr (6, [.int (iI (cK (w 17 f))), .long (lI (cB (w 17 f) (fvL w f xs))), va_rf (cT σ (w 17 f) (fvL w f xs))])) := by obtain ⟨g1, g2, g3⟩ := ld_cp (σ := σ) (t := w 17 f) (b := fvL w f xs) (by omega); rw [← g2, ← g3, ← g1]; exact o41
    refine z_aload_n C 47 0 dX13_work_46 rfl rfl ?_
    refine z_aload_n C 48 1 dX13_work_47 rfl rfl ?_
    refine z_aload_n C 49 2 dX13_work_48 rfl rfl ?_
    refine z_callU (owner := RX10) (As := [.ref (fr), .ref (a6)]) (rest := []) C hκ hκl 52 (k10_gives_13 hX39 hs hw hT (b) (m) (f) (fr) (xo σ 30 (xs)) (ar) (out) (dp) (k1) (b1) (t1) (a6) (cK (w 17 f)) (cB (w 17 f) (fvL w f xs)) (cT σ (w 17 f) (fvL w f xs)) o35 ⟨by omega, by omega⟩ ⟨by omega, by omega⟩ r_dp o36 o37 hOf o42 ne9 (cK_nm h179 (by unfold fvL; split <;> exact hw.l _ _) (fv_ft hV ⟨hf0, hf.2⟩ hfd hxs hag)) ⟨by omega, by omega⟩ (by omega)) dX13_work_49 q1858 q1859 q1860 q1786 q104 q1787 rfl ⟨by decide, by decide, rfl⟩ (Nat.le_of_ble_eq_true rfl) (Nat.le_of_ble_eq_true rfl) (Nat.le_of_ble_eq_true rfl) (Nat.le_of_ble_eq_true rfl) (zrec_P o35) rfl rfl (Nat.le_of_ble_eq_true rfl) rfl (fun v9 Q9 h9 => ?_)
    obtain ⟨rfl, rfl⟩ := h9
    obtain ⟨M4, eM4⟩ : ∃ z9 : zMap, zup M3 out (.inr (6, [.int (iI (gvK (w 17 (m)) (w 17 (f)) (cK (w 17 f)))), .long (lI (gvB (w 17 (m)) (w 17 (f)) (cK (w 17 f)) (cB (w 17 f) (fvL w f xs)))), va_rf (gvT (w 17 (m)) (w 17 (f)) (cT σ (w 17 f) (fvL w f xs)))]) : va_E) = z9 := ⟨_, rfl⟩
    rw [eM4]
    have o43 : M4 b = some (.inr (13, [.ref (σ 20 (m)), .ref (σ 0 (0)), va_rf (xo σ 20 (f)), .ref (σ 0 (0))])) := eM4 ▸ (zup_n ne2).trans o35
    have o44 : M4 fr = some (.inr (26, [va_rf (xo σ 30 (xs)), .ref (ar), .ref (out), .int (iI (dp))])) := eM4 ▸ (zup_n ne3).trans o36
    have o45 : M4 a6 = some (.inr (6, [.int (iI (cK (w 17 f))), .long (lI (cB (w 17 f) (fvL w f xs))), va_rf (cT σ (w 17 f) (fvL w f xs))])) := eM4 ▸ (zup_n (fun z9 => ne9 z9.symm)).trans o42
    have o46 : M4 (rwA σ w f xs) = some (e9) := eM4 ▸ (zup_n hno9).trans o38
    have hX47 : xM θ σ w (xL w) M4 := eM4 ▸ hX39.up hOf
    have fx48 : zFx out M M4 := eM4 ▸ fx40.up (Or.inr rfl)
    have o49 : M4 out = some (.inr (6, [.int (iI (gvK (w 17 (m)) (w 17 (f)) (cK (w 17 f)))), .long (lI (gvB (w 17 (m)) (w 17 (f)) (cK (w 17 f)) (cB (w 17 f) (fvL w f xs)))), va_rf (gvT (w 17 (m)) (w 17 (f)) (cT σ (w 17 f) (fvL w f xs)))])) := eM4 ▸ zup_s
    refine z_as (st' := []) rfl rfl rfl ?_
    exact z_vret C dX13_work_52 (Nat.le_of_ble_eq_true rfl) (Nat.le_of_ble_eq_true rfl) ⟨rfl, M4, rfl, hX47, o49, xKp.of fx48⟩
  · skip
    have c30b : (8 ≤ (w 17 (f)) ∧ (w 17 (f)) < w 0 0) := of_decide_eq_true c30
    refine z_bipush C 29 dX13_work_27 (by decide) rfl ?_
    refine z_goto C 42 dX13_work_29 (by decide) ?_
    refine z_aload_n C 43 2 dX13_work_42 rfl rfl ?_
    refine zx_callSN (As := [.ref (rwA σ w (f) (xs)), .int (iI (0)), .int (iI (8)), .ref (a6)]) (rest := []) C hκ hκl hT 46 (k0_load hT hZ (rwA σ w (f) (xs)) (w 17 f) (1) ((fun _ => fvL w f xs)) (e9) (0) (8) (a6) (4) (0) (none) ⟨by decide, by decide⟩ ⟨by decide, by decide⟩ o23 hr9 (fun _ _ => hvk9) (by decide) ⟨by omega, by omega⟩ o26) dX13_work_43 q1857 q1524 q90 q1525 (zNd_of znX0_load) (Nat.le_of_ble_eq_true rfl) (Nat.le_of_ble_eq_true rfl) (Nat.le_of_ble_eq_true rfl) (Nat.le_of_ble_eq_true rfl) rfl (Nat.le_of_ble_eq_true rfl) rfl (fun v9 Q9 h9 => ?_) (fun E9 b9 Q9 h9 => ?_)
    rotate_left 1
    · skip
      obtain ⟨cr50, hnr50, hcr50, er50, rfl⟩ := h9
      refine zx_out C hκ hT XX (fun z9 h9 => by cases h9) (by exfalso; have h9 := hnr50; have h8 := ld_own h179; first | (rw [← (ld_c8 (σ := σ) (t := w 17 f) (b := 0) (by omega)).1] at h8; exact hcr50 (h9.symm.trans h8)) | (rw [← (ld_cp (σ := σ) (t := w 17 f) (b := 0) (by omega)).1] at h8; exact hcr50 (h9.symm.trans h8))) (Nat.le_of_ble_eq_true rfl) (Nat.le_of_ble_eq_true rfl)
    obtain ⟨rfl, hnr51, rfl⟩ := h9
    obtain ⟨M5, eM5⟩ : ∃ z9 : zMap, zup M2 a6 (.inr (6, [.int (iI (8)), .long (lI (ldB (w 17 f) (8) ((fun _ => fvL w f xs) (0 : Int).toNat))), va_rf (ldT σ (8) ((fun _ => fvL w f xs) (0 : Int).toNat))]) : va_E) = z9 := ⟨_, rfl⟩
    rw [eM5]
    have o52 : M5 b = some (.inr (13, [.ref (σ 20 (m)), .ref (σ 0 (0)), va_rf (xo σ 20 (f)), .ref (σ 0 (0))])) := eM5 ▸ (zup_n ne7).trans o20
    have o53 : M5 fr = some (.inr (26, [va_rf (xo σ 30 (xs)), .ref (ar), .ref (out), .int (iI (dp))])) := eM5 ▸ (zup_n ne8).trans o21
    have o54 : M5 out = some (.inr (6, [.int (iI (k1)), .long (lI (b1)), va_rf (t1)])) := eM5 ▸ (zup_n ne9).trans o22
    have o55 : M5 (rwA σ w f xs) = some (e9) := eM5 ▸ (zup_n ne10).trans o23
    have hX56 : xM θ σ w (xL w) M5 := eM5 ▸ hX24.up fr11
    have fx57 : zFx out M M5 := eM5 ▸ fx25.up (Or.inl no12)
    have o58 : M5 a6 = some (.inr (6, [.int (iI (8)), .long (lI (ldB (w 17 f) (8) ((fun _ => fvL w f xs) (0 : Int).toNat))), va_rf (ldT σ (8) ((fun _ => fvL w f xs) (0 : Int).toNat))])) := eM5 ▸ zup_s
    refine z_as (st' := []) rfl rfl rfl ?_
    refine z_widen (n' := 5) (k' := 231) (Nat.le_refl _) (Nat.le_refl _) ?_
    have o59 : M5 a6 = some (.inr (6, [.int (iI (cK (w 17 f))), .long (lI (cB (w 17 f) (fvL w f xs))), va_rf (cT σ (w 17 f) (fvL w f xs))])) := by obtain ⟨g1, g2, g3⟩ := ld_c8 (σ := σ) (t := w 17 f) (b := fvL w f xs) (by omega); rw [← g2, ← g3, ← g1]; exact o58
    refine z_aload_n C 47 0 dX13_work_46 rfl rfl ?_
    refine z_aload_n C 48 1 dX13_work_47 rfl rfl ?_
    refine z_aload_n C 49 2 dX13_work_48 rfl rfl ?_
    refine z_callU (owner := RX10) (As := [.ref (fr), .ref (a6)]) (rest := []) C hκ hκl 52 (k10_gives_13 hX56 hs hw hT (b) (m) (f) (fr) (xo σ 30 (xs)) (ar) (out) (dp) (k1) (b1) (t1) (a6) (cK (w 17 f)) (cB (w 17 f) (fvL w f xs)) (cT σ (w 17 f) (fvL w f xs)) o52 ⟨by omega, by omega⟩ ⟨by omega, by omega⟩ r_dp o53 o54 hOf o59 ne9 (cK_nm h179 (by unfold fvL; split <;> exact hw.l _ _) (fv_ft hV ⟨hf0, hf.2⟩ hfd hxs hag)) ⟨by omega, by omega⟩ (by omega)) dX13_work_49 q1858 q1859 q1860 q1786 q104 q1787 rfl ⟨by decide, by decide, rfl⟩ (Nat.le_of_ble_eq_true rfl) (Nat.le_of_ble_eq_true rfl) (Nat.le_of_ble_eq_true rfl) (Nat.le_of_ble_eq_true rfl) (zrec_P o52) rfl rfl (Nat.le_of_ble_eq_true rfl) rfl (fun v9 Q9 h9 => ?_)
    obtain ⟨rfl, rfl⟩ := h9
    obtain ⟨M6, eM6⟩ : ∃ z9 : zMap, zup M5 out (.inr (6, [.int (iI (gvK (w 17 (m)) (w 17 (f)) (cK (w 17 f)))), .long (lI (gvB (w 17 (m)) (w 17 (f)) (cK (w 17 f)) (cB (w 17 f) (fvL w f xs)))), va_rf (gvT (w 17 (m)) (w 17 (f)) (cT σ (w 17 f) (fvL w f xs)))]) : va_E) = z9 := ⟨_, rfl⟩
    rw [eM6]
    have o60 : M6 b = some (.inr (13, [.ref (σ 20 (m)), .ref (σ 0 (0)), va_rf (xo σ 20 (f)), .ref (σ 0 (0))])) := eM6 ▸ (zup_n ne2).trans o52
    have o61 : M6 fr = some (.inr (26, [va_rf (xo σ 30 (xs)), .ref (ar), .ref (out), .int (iI (dp))])) := eM6 ▸ (zup_n ne3).trans o53
    have o62 : M6 a6 = some (.inr (6, [.int (iI (cK (w 17 f))), .long (lI (cB (w 17 f) (fvL w f xs))), va_rf (cT σ (w 17 f) (fvL w f xs))])) := eM6 ▸ (zup_n (fun z9 => ne9 z9.symm)).trans o59
    have o63 : M6 (rwA σ w f xs) = some (e9) := eM6 ▸ (zup_n hno9).trans o55
    have hX64 : xM θ σ w (xL w) M6 := eM6 ▸ hX56.up hOf
    have fx65 : zFx out M M6 := eM6 ▸ fx57.up (Or.inr rfl)
    have o66 : M6 out = some (.inr (6, [.int (iI (gvK (w 17 (m)) (w 17 (f)) (cK (w 17 f)))), .long (lI (gvB (w 17 (m)) (w 17 (f)) (cK (w 17 f)) (cB (w 17 f) (fvL w f xs)))), va_rf (gvT (w 17 (m)) (w 17 (f)) (cT σ (w 17 f) (fvL w f xs)))])) := eM6 ▸ zup_s
    refine z_as (st' := []) rfl rfl rfl ?_
    exact z_vret C dX13_work_52 (Nat.le_of_ble_eq_true rfl) (Nat.le_of_ble_eq_true rfl) ⟨rfl, M6, rfl, hX64, o66, xKp.of fx65⟩
