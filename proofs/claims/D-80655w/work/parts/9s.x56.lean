/-! ===== bodies at work: Failing, Writing, Item ===== -/
theorem gi_c {w : mW} {p t : Int} (h : giB w p t = true) : (p < 8 ∧ t < 8 ∧ wdB p t = true) ∨ (8 ≤ p ∧ 8 ≤ t ∧ isa w p t = true) := by
  unfold giB at h
  by_cases h8 : p < 8
  · rw [if_pos h8, Bool.and_eq_true] at h; exact Or.inl ⟨h8, of_decide_eq_true h.1, h.2⟩
  · rw [if_neg h8, Bool.and_eq_true] at h; exact Or.inr ⟨by omega, of_decide_eq_true h.1, h.2⟩
theorem sv_own {w : mW} {p t : Int} (h : giB w p t = true) : svE t 1 0 (cK p) = 0 := by
  unfold cK
  rcases gi_c h with ⟨h1, h2, h3⟩ | ⟨h1, h2, h3⟩
  · rw [if_pos h1]; exact sv_ok (by omega) h2 (by decide) (by decide) h3
  · rw [if_neg (by omega)]; exact sv_8 h2 (by decide) (by decide)
theorem agc_ft {w : mW} {p v : Int} (h : agB w p v = true) : ftB w p v = true ∧ (8 ≤ p → 0 ≤ v → isa w (w 28 v) p = true) := by
  unfold agB at h
  rw [Bool.and_eq_true, Bool.or_eq_true, Bool.or_eq_true] at h
  refine ⟨h.1, fun h1 h2 => ?_⟩
  rcases h.2 with (h3 | h3) | h3
  · have := of_decide_eq_true h3; omega
  · have := of_decide_eq_true h3; omega
  · exact h3
/-- a value goes into a type into which its own goes -/
theorem ag_go {w : mW} (hs : xS w) (hT : mTy w) {p t v : Int} (hp : 0 ≤ p ∧ p < w 0 0) (ht : 0 ≤ t ∧ t < w 0 0) (h : agB w p v = true) (hg : giB w p t = true) (h8 : 8 ≤ t) : goB w v t := by
  rcases gi_c hg with ⟨_, h2, _⟩ | ⟨h1, h2, h3⟩
  · omega
  · obtain ⟨a1, a2⟩ := agc_ft h
    have hb := ft8 a1 h1
    refine ⟨hb.1, hb.2, fun h0 => ?_⟩
    have hx := (hs.2.1.X h0 hb.2).1
    exact hT.2.1 (w 28 v) p t (by omega) hx.2 hp.1 hp.2 ht.1 ht.2 (a2 h1 h0) h3
theorem sv_val {p t v : Int} (h : (p < 8 ∧ t < 8) ∨ (8 ≤ p ∧ 8 ≤ t)) : svZ (cK p) (cB p v) v t = wdL v p t := by
  unfold svZ cK cB
  rcases h with ⟨h1, h2⟩ | ⟨h1, h2⟩
  · rw [if_pos h1, if_pos h1, if_neg (by omega)]
  · rw [if_neg (show ¬ p < 8 by omega), if_pos rfl]; unfold wdL; rw [if_pos (by omega)]
theorem cT_8 {σ : xA} {t v : Int} (h : 8 ≤ t) : cT σ t v = xo σ 30 v := if_neg (by omega)
theorem cK_8 {t : Int} (h : cK t = 8) (h0 : 0 ≤ t) : 8 ≤ t := by unfold cK at h; split at h <;> omega
theorem cK_l {t : Int} (h : cK t < 8) : t < 8 ∧ cK t = t := by unfold cK at h ⊢; split at h; rename_i h1; exact ⟨h1, if_pos h1⟩; omega
theorem xFr_V {σ : xA} {w w' : mW} (h : sV w w') {a : Nat} (hf : xFr σ w (xL w) a) : xFr σ w' (xL w') a := by rw [Vx_of (fun w => xFr σ w (xL w) a) (fun w9 => by show xFr σ (nrv w9) (xL (nrv w9)) a = xFr σ w9 (xL w9) a; rw [xL_V (w := w9) (w' := nrv w9) (fun k i g => by unfold nrv; rw [if_neg g])]; rfl) h]; exact hf
/-- what stands when a row of a field is anew -/
theorem xKp.row {σ : xA} {w : mW} {θ : zTh} {out : Nat} {M M' : zMap} {f x : Int} {e' : va_E} (hX : xM θ σ w (xL w) M) (hs : xS w) (hF : xFd w) (hm : 0 ≤ f ∧ f < w 11 0) (hfd : w 16 f = 1) (hx : -1 ≤ x ∧ x < w 27 0) (h : agI w f x = 0) (h2 : zFx out (zup M (rwA σ w f x) e') M') : xKp σ w out M M' := fun a e g1 g2 g3 => by
  refine h2 a e ((zup_n (fun e9 => ?_)).trans g1) g3
  unfold rwA at e9
  unfold agI at h
  cases hst : hasB w f 4 with
  | true =>
    rw [hst, if_pos rfl] at e9
    exact g2 23 f (Or.inr (Or.inr (Or.inr (Or.inr (Or.inl ⟨rfl, hm.1, hm.2, by unfold xHasRow; rw [hst]; simp [hfd]⟩))))) e9.symm
  | false =>
    rw [hst] at e9 h
    simp only [Bool.false_eq_true, if_false] at h e9
    split at h
    · omega
    · split at h
      · omega
      · rename_i h1 h3
        have his : isa w (w 28 x) (w 13 f) = true := by simpa using h3
        have x0 : 0 ≤ x := by omega
        have hone := fd_one hs hF hm.1 hm.2 hfd x0 hx.2 hst his
        have hin := fd_in hs hF hm.1 hm.2 hfd x0 hx.2 hst his
        have h100 : w 11 0 ≤ 100 := hs.2.1.B.2.2.2.1
        have e1 : (100 * x + f) / 100 = x := by omega
        have e2 : (100 * x + f) % 100 = f := by omega
        exact g2 33 (100 * x + f) (Or.inr (Or.inr (Or.inr (Or.inr (Or.inr (Or.inr (Or.inr (Or.inr (Or.inl ⟨rfl, by omega, by omega, by rw [e1]; exact hone, by omega, by rw [e2]; exact hfd, by rw [e2]; exact hst, by rw [e1, e2]; exact hin⟩))))))))) e9.symm

set_option maxRecDepth 100000 in
theorem k15_work_15 {l : Launch} {θ : zTh} {σ : xA} {w : mW} {M N : zMap} (hX : xM θ σ w (xL w) M) (hs : xS w) (hw : mWF w) (hT : zTb θ) (hZ : zTx θ l) (b : Nat) (m : Int) (x : Int) (fr : Nat) (xs : Int) (ar : Nat) (out : Nat) (dp : Int) (k1 : Int) (b1 : Int) (t1 : Option Nat)  (hb : M b = some (.inr (15, [.ref (σ 20 (m)), .ref (σ 0 (0)), .int (iI (x)), .ref (σ 0 (0))]))) (hm : 0 ≤ m ∧ m < w 11 0) (r_x : inR x) (r_dp : inR dp) (hFr : M fr = some (.inr (26, [va_rf (xo σ 30 (xs)), .ref (ar), .ref (out), .int (iI (dp))]))) (hO : M out = some (.inr (6, [.int (iI (k1)), .long (lI (b1)), va_rf (t1)]))) (hOf : xFr σ w (xL w) out) (hxs : -1 ≤ xs ∧ xs < w 27 0) (hx0 : x ≠ 0) : zMX θ l yX15_work (ws_ yX15_work cX15_work 2 none) ⟨4, 1, 7, 109⟩ [.ref (b), .ref (fr)] (zP θ M N) (fun v9 Q9 => False) (fun E9 b9 Q9 => ∃ (M' : zMap) (c9 : Int), Q9 = zP θ M' N ∧ xM θ σ w (xL w) M' ∧ c9 = x ∧ c9 ≠ 0 ∧ xEx M' b9 E9 c9 ∧ xKp σ w out M M') := by
  refine zx_start (own := RX15) (nm := "work") pnX15 rfl rfl (Nat.le_of_ble_eq_true rfl) ?_
  intro κ hκ hκl C XX
  change Z κ (zP θ M N) 0 0 0 [(0, .ref (b)), (1, .ref (fr))] []
  have hS := hs.S
  have hB := hS.B
  obtain ⟨hB1, hB2, hB3, hB4, hB5, hB6⟩ := hS.B
  have hC := hS.C
  obtain ⟨h81, h82⟩ := hs.r8
  obtain ⟨f1a, f1b, f1c, f1d⟩ := hS.M (show 0 ≤ m by omega) (by omega)
  have ne2 : b ≠ out := fun z9 => by have z8 := hb; rw [z9, hO] at z8; cases z8
  have ne3 : fr ≠ out := fun z9 => by have z8 := hFr; rw [z9, hO] at z8; cases z8
  have fx09 : zFx out M M := zFx.rf
  have k17 : -1 ≤ w 17 m := by omega
  refine z_new (fs := [.null, .null, .null, .null, .null, .int (iI (0)), .int (iI (0))]) C hκ 3 zk_X25 q1820 q1495 q130 (fun j9 h9 => match j9, h9 with | 0, _ => rfl | 1, _ => rfl | 2, _ => rfl | 3, _ => rfl | 4, _ => rfl | 5, _ => rfl | 6, _ => rfl | (j9 + 7), h9 => absurd h9 (by omega)) (Nat.le_of_ble_eq_true rfl) (Nat.le_of_ble_eq_true rfl) dX15_work_0 rfl (fun a4 a4M a4N => ?_)
  refine z_widen (n' := 1) (k' := 7) (Nat.le_refl _) (Nat.le_refl _) ?_
  have ne5 : b ≠ a4 := fun z9 => by have z8 := hb; rw [z9, a4M] at z8; cases z8
  have ne6 : fr ≠ a4 := fun z9 => by have z8 := hFr; rw [z9, a4M] at z8; cases z8
  have ne7 : out ≠ a4 := fun z9 => by have z8 := hO; rw [z9, a4M] at z8; cases z8
  have fr8 : xFr σ w (xL w) a4 := hX.fr a4M
  have no9 : M a4 = none := fx09.no a4M (fun z9 => ne7 z9.symm)
  obtain ⟨M1, eM1⟩ : ∃ z9 : zMap, zup M a4 (.inr (25, [.null, .null, .null, .null, .null, .int (iI (0)), .int (iI (0))]) : va_E) = z9 := ⟨_, rfl⟩
  rw [eM1]
  have o10 : M1 b = some (.inr (15, [.ref (σ 20 (m)), .ref (σ 0 (0)), .int (iI (x)), .ref (σ 0 (0))])) := eM1 ▸ (zup_n ne5).trans hb
  have o11 : M1 fr = some (.inr (26, [va_rf (xo σ 30 (xs)), .ref (ar), .ref (out), .int (iI (dp))])) := eM1 ▸ (zup_n ne6).trans hFr
  have o12 : M1 out = some (.inr (6, [.int (iI (k1)), .long (lI (b1)), va_rf (t1)])) := eM1 ▸ (zup_n ne7).trans hO
  have hX13 : xM θ σ w (xL w) M1 := eM1 ▸ hX.up fr8
  have fx14 : zFx out M M1 := eM1 ▸ fx09.up (Or.inl no9)
  have o15 : M1 a4 = some (.inr (25, [.null, .null, .null, .null, .null, .int (iI (0)), .int (iI (0))])) := eM1 ▸ zup_s
  refine z_dup C 4 dX15_work_3 rfl rfl ?_
  refine z_aload_n C 5 0 dX15_work_4 rfl rfl ?_
  refine z_getf C hκ (v := .int (iI (x))) 8 2 zk_X15 o10 (by decide) q863 (Or.inl rfl) rfl dX15_work_5 rfl ?_
  refine z_callI (As := [.int (iI (x))]) (rest := [.ref (a4)]) C hκ hκl 11 (k25_init_25 hT (a4) (x) r_x hZ o15) dX15_work_8 q1821 q1504 q130 q1505 znX25_init rfl (Nat.le_of_ble_eq_true rfl) (Nat.le_of_ble_eq_true rfl) (Nat.le_of_ble_eq_true rfl) (Nat.le_of_ble_eq_true rfl) rfl (Nat.le_of_ble_eq_true rfl) rfl (fun v9 Q9 h9 => ?_)
  obtain ⟨rfl, rfl⟩ := h9
  obtain ⟨M2, eM2⟩ : ∃ z9 : zMap, zup M1 a4 (.inr (25, [.null, .null, .null, .null, .null, .int (iI (0)), .int (iI (x))]) : va_E) = z9 := ⟨_, rfl⟩
  rw [eM2]
  have o16 : M2 b = some (.inr (15, [.ref (σ 20 (m)), .ref (σ 0 (0)), .int (iI (x)), .ref (σ 0 (0))])) := eM2 ▸ (zup_n ne5).trans o10
  have o17 : M2 fr = some (.inr (26, [va_rf (xo σ 30 (xs)), .ref (ar), .ref (out), .int (iI (dp))])) := eM2 ▸ (zup_n ne6).trans o11
  have o18 : M2 out = some (.inr (6, [.int (iI (k1)), .long (lI (b1)), va_rf (t1)])) := eM2 ▸ (zup_n ne7).trans o12
  have hX19 : xM θ σ w (xL w) M2 := eM2 ▸ hX13.up fr8
  have fx20 : zFx out M M2 := eM2 ▸ fx14.up (Or.inl no9)
  have o21 : M2 a4 = some (.inr (25, [.null, .null, .null, .null, .null, .int (iI (0)), .int (iI (x))])) := eM2 ▸ zup_s
  refine z_as (st' := [.ref (a4)]) rfl rfl rfl ?_
  refine zx_athrow C hκ o21 rfl dX15_work_11 ?_
  refine zx_out C hκ hT XX (fun z9 h9 => by cases h9) ⟨M2, x, rfl, hX19, rfl, hx0, Or.inl ⟨rfl, o21⟩, xKp.of fx20⟩ (Nat.le_of_ble_eq_true rfl) (Nat.le_of_ble_eq_true rfl)
set_option maxRecDepth 100000 in
theorem k14_work_14 {l : Launch} {θ : zTh} {σ : xA} {w : mW} {M N : zMap} (hX : xM θ σ w (xL w) M) (hs : xS w) (hw : mWF w) (hT : zTb θ) (hZ : zTx θ l) (b : Nat) (m : Int) (f : Int) (y : Int) (fr : Nat) (xs : Int) (ar : Nat) (out : Nat) (dp : Int) (k1 : Int) (b1 : Int) (t1 : Option Nat) (av : Int → Int)  (hb : M b = some (.inr (14, [.ref (σ 20 (m)), .ref (σ 0 (0)), va_rf (xo σ 20 (f)), .ref (σ 0 (0)), .int (iI (y)), .ref (σ 0 (0))]))) (hm : 0 ≤ m ∧ m < w 11 0) (hf : -1 ≤ f ∧ f < w 11 0) (r_y : inR y) (r_dp : inR dp) (hFr : M fr = some (.inr (26, [va_rf (xo σ 30 (xs)), .ref (ar), .ref (out), .int (iI (dp))]))) (hO : M out = some (.inr (6, [.int (iI (k1)), .long (lI (b1)), va_rf (t1)]))) (hOf : xFr σ w (xL w) out) (hxs : -1 ≤ xs ∧ xs < w 27 0) (hf0 : 0 ≤ f) (hfd : w 16 f = 1) (hF : xFd w) (hag : agI w f xs = 0) (hV : mV w) (hip : 0 ≤ y ∧ y < w 18 m) (hA : xArg σ w θ m av M ar out) (hAL : ∀ j, inL (av j)) (hgi : giB w (w 19 (3 * m + y)) (w 17 f) = true) (hTy9 : mTy w) (hTh : ∀ x : Int, 0 ≤ x → x < w 27 0 → w 29 x = -1 → w 1 (w 28 x) ≠ 4) : zMX θ l yX14_work (ws_ yX14_work cX14_work 2 none) ⟨11, 3, 210, 10292⟩ [.ref (b), .ref (fr)] (zP θ M N) (fun v9 Q9 => v9 = none ∧ ∃ M' : zMap, Q9 = zP θ M' N ∧ xM θ σ (sfW w f xs (wdL (av y) (w 19 (3 * m + y)) (w 17 f))) (xL (sfW w f xs (wdL (av y) (w 19 (3 * m + y)) (w 17 f)))) M' ∧ M' out = some (.inr (6, [.int (iI (clK (w 17 m))), .long (lI (0)), .null])) ∧ xKp σ w out M M') (fun E9 b9 Q9 => ∃ (M' : zMap) (c9 : Int), Q9 = zP θ M' N ∧ xM θ σ w (xL w) M' ∧ False ∧ c9 ≠ 0 ∧ xEx M' b9 E9 c9 ∧ xKp σ w out M M') := by
  refine zx_start (own := RX14) (nm := "work") pnX14 rfl rfl (Nat.le_of_ble_eq_true rfl) ?_
  intro κ hκ hκl C XX
  change Z κ (zP θ M N) 0 0 0 [(0, .ref (b)), (1, .ref (fr))] []
  have hS := hs.S
  have hB := hS.B
  obtain ⟨hB1, hB2, hB3, hB4, hB5, hB6⟩ := hS.B
  have hC := hS.C
  obtain ⟨h81, h82⟩ := hs.r8
  obtain ⟨f1a, f1b, f1c, f1d⟩ := hS.M (show 0 ≤ m by omega) (by omega)
  obtain ⟨g9, hg9, hA9⟩ := hA
  have ne2 : b ≠ out := fun z9 => by have z8 := hb; rw [z9, hO] at z8; cases z8
  have ne3 : fr ≠ out := fun z9 => by have z8 := hFr; rw [z9, hO] at z8; cases z8
  have ne4 : ar ≠ out := fun z9 => by have z8 := hg9; rw [z9, hO] at z8; cases z8
  have fx09 : zFx out M M := zFx.rf
  have k17 : -1 ≤ w 17 m := by omega
  obtain ⟨f5a, f5b, f5c, f5d⟩ := hS.M (show 0 ≤ f by omega) (by omega)
  obtain ⟨e9, he9, hr9⟩ := xM.fld hX hs hF ⟨hf0, hf.2⟩ hfd hxs hag
  have hvk9 := fv_ok hs hw hV ⟨hf0, hf.2⟩ hfd hxs hag
  have h179 := hV.2.2.2.2 f hf0 hf.2 hfd
  have hkf9 := cK_r h179
  have hno9 : rwA σ w f xs ≠ out := fun z9 => by rw [z9] at he9; rw [hO] at he9; rcases hr9 with ⟨_, _, _, h, _⟩ | ⟨_, _, h, _⟩ | ⟨_, _, h, _⟩ | ⟨_, _, h, _⟩ | ⟨_, _, h, _⟩ <;> (rw [h] at he9; cases he9)
  obtain ⟨f6a, f6b, f6c, f6d, f6e, f6f, f6g, f6h⟩ := hS.T (show 0 ≤ w 17 f by omega) (by omega)
  obtain ⟨f6i, f6j, f6k, f6l⟩ := hs.ty (show 0 ≤ w 17 f by omega) (by omega)
  have hof9 := hO
  have hey9 : ((y.toNat : Nat) : Int) = y := by omega
  obtain ⟨cy9, hgy9, hny9, hcy9, hagy9⟩ := hA9 y.toNat (by omega)
  rw [hey9] at hcy9 hagy9
  have hpry9 := (hS.M hm.1 hm.2).2.2.2 y (by omega) (by omega)
  have hkcy9 := cK_r (t := w 19 (3 * m + y)) (by omega)
  have hbcy9 : inL (cB (w 19 (3 * m + y)) (av y)) := cB_L (hAL _)
  have hfty9 : ftB w (w 19 (3 * m + y)) (av y) = true := by unfold agB at hagy9; rw [Bool.and_eq_true] at hagy9; exact hagy9.1
  have hnmy9 : nmOk (cK (w 19 (3 * m + y))) (cB (w 19 (3 * m + y)) (av y)) := cK_nm (by omega) (hAL _) hfty9
  refine z_aload_n C 1 0 dX14_work_0 rfl rfl ?_
  refine z_aload_n C 2 1 dX14_work_1 rfl rfl ?_
  refine z_callU (owner := RX13) (As := [.ref (fr)]) (rest := []) C hκ hκl 5 (k13_place_14 hX hs hw hT (b) (m) (f) (y) (fr) (xs) (ar) (out) (dp) hb ⟨by omega, by omega⟩ ⟨by omega, by omega⟩ r_y r_dp hFr hxs hf0 hfd hF hag) dX14_work_2 q1865 q1866 q1868 q1849 q107 q1853 rfl ⟨by decide, by decide, rfl⟩ (Nat.le_of_ble_eq_true rfl) (Nat.le_of_ble_eq_true rfl) (Nat.le_of_ble_eq_true rfl) (Nat.le_of_ble_eq_true rfl) (zrec_P hb) rfl rfl (Nat.le_of_ble_eq_true rfl) rfl (fun v9 Q9 h9 => ?_)
  obtain ⟨rfl, rfl⟩ := h9
  refine z_as (st' := [.ref (rwA σ w (f) (xs))]) rfl rfl rfl ?_
  refine z_iconst C 6 dX14_work_5 rfl ?_
  refine z_aload_n C 7 1 dX14_work_6 rfl rfl ?_
  refine z_getf C hκ (v := .ref (ar)) 10 1 zk_X26 hFr (by decide) q1746 (Or.inl rfl) rfl dX14_work_7 rfl ?_
  refine z_aload_n C 11 0 dX14_work_10 rfl rfl ?_
  refine z_getf C hκ (v := .int (iI (y))) 14 4 zk_X14 hb (by decide) q846 (Or.inl rfl) rfl dX14_work_11 rfl ?_
  refine z_qald C hκ 15 11 hg9 rfl (by omega) (by omega) (by decide) (congrArg va_rf hgy9) dX14_work_14 rfl ?_
  refine z_as (st' := [.ref (cy9), .int (iI (0)), .ref (rwA σ w (f) (xs))]) rfl rfl rfl ?_
  have hlt9 : cK (w 19 (3 * m + y)) < 8 → ftB w (cK (w 19 (3 * m + y))) (cB (w 19 (3 * m + y)) (av y)) = true := fun h9 => by obtain ⟨q1, q2⟩ := cK_l h9; rw [q2]; unfold cB; rw [if_pos q1]; exact hfty9
  have h8z9 : cK (w 19 (3 * m + y)) = 8 → 8 ≤ w 17 f → cT σ (w 19 (3 * m + y)) (av y) = xo σ 30 (av y) ∧ goB w (av y) (w 17 f) := fun h9 h8 => ⟨cT_8 (cK_8 h9 (by omega)), ag_go hs hTy9 ⟨by omega, by omega⟩ ⟨by omega, by omega⟩ hagy9 hgi h8⟩
  refine zx_callSN (As := [.ref (rwA σ w (f) (xs)), .int (iI (0)), .ref (cy9)]) (rest := []) C hκ hκl hT 18 (k0_save hX hs hw hT hZ (rwA σ w (f) (xs)) (w 17 f) (1) ((fun _ => fvL w f xs)) (e9) (0) (av y) (cy9) (cK (w 19 (3 * m + y))) (cB (w 19 (3 * m + y)) (av y)) (cT σ (w 19 (3 * m + y)) (av y)) ⟨by decide, by decide⟩ he9 hr9 (by decide) (by omega) hkcy9 hbcy9 hlt9 h8z9 hTh hcy9) dX14_work_15 q1869 q1587 q90 q1588 (zNd_of znX0_save) (Nat.le_of_ble_eq_true rfl) (Nat.le_of_ble_eq_true rfl) (Nat.le_of_ble_eq_true rfl) (Nat.le_of_ble_eq_true rfl) rfl (Nat.le_of_ble_eq_true rfl) rfl (fun v9 Q9 h9 => ?_) (fun E9 b9 Q9 h9 => ?_)
  rotate_left 1
  · skip
    obtain ⟨cr7, hnr7, hcr7, er7, rfl⟩ := h9
    refine zx_out C hκ hT XX (fun z9 h9 => by cases h9) (by exfalso; exact hcr7 (hnr7.symm.trans (sv_own hgi))) (Nat.le_of_ble_eq_true rfl) (Nat.le_of_ble_eq_true rfl)
  obtain ⟨rfl, hnr8, er8, hrr8, rfl⟩ := h9
  refine z_as (st' := []) rfl rfl rfl ?_
  refine z_widen (n' := 3) (k' := 210) (Nat.le_refl _) (Nat.le_refl _) ?_
  have hrv9 : xRow θ σ w (w 17 f) 1 (fun _ => (wdL (av y) (w 19 (3 * m + y)) (w 17 f))) er8 := xRow_eq (w1 := w) (σ' := σ) rfl (fun j9 h9 => by show (wdL (av y) (w 19 (3 * m + y)) (w 17 f)) = svU _ 0 _ j9; unfold svU; rw [if_pos (by omega)]; exact (sv_val (by rcases gi_c hgi with ⟨g1, g2, _⟩ | ⟨g1, g2, _⟩; exact Or.inl ⟨g1, g2⟩; exact Or.inr ⟨g1, g2⟩)).symm) (fun _ _ _ _ => rfl) hrr8
  have hX1 := hX.sf hs hF ⟨hf0, hf.2⟩ hfd hxs hag hrv9
  have hsv1 : sV w (sfW w f xs (wdL (av y) (w 19 (3 * m + y)) (w 17 f))) := sV_sf
  have hs1 := xS_V hsv1 hs
  have hw1 : mWF (sfW w f xs (wdL (av y) (w 19 (3 * m + y)) (w 17 f))) := sfW_wf hw (wdL_L (hAL _))
  have hOf1 := xFr_V hsv1 hOf
  have f171 : ∀ t : Int, (sfW w f xs (wdL (av y) (w 19 (3 * m + y)) (w 17 f))) 17 t = w 17 t := fun t => hsv1 17 t (by decide)
  have f131 : ∀ t : Int, (sfW w f xs (wdL (av y) (w 19 (3 * m + y)) (w 17 f))) 13 t = w 13 t := fun t => hsv1 13 t (by decide)
  have f0w : (sfW w f xs (wdL (av y) (w 19 (3 * m + y)) (w 17 f))) 0 0 = w 0 0 := hsv1 0 0 (by decide)
  have f11w : (sfW w f xs (wdL (av y) (w 19 (3 * m + y)) (w 17 f))) 11 0 = w 11 0 := hsv1 11 0 (by decide)
  have f27w : (sfW w f xs (wdL (av y) (w 19 (3 * m + y)) (w 17 f))) 27 0 = w 27 0 := hsv1 27 0 (by decide)
  have f34w : (sfW w f xs (wdL (av y) (w 19 (3 * m + y)) (w 17 f))) 34 0 = w 34 0 := hsv1 34 0 (by decide)
  have ne9 : b ≠ rwA σ w f xs := fun z9 => by have z8 := hb; rw [z9, he9] at z8; rcases hr9 with ⟨_, _, _, h, _⟩ | ⟨_, _, h, _⟩ | ⟨_, _, h, _⟩ | ⟨_, _, h, _⟩ | ⟨_, _, h, _⟩ <;> (rw [h] at z8; cases z8)
  have ne10 : fr ≠ rwA σ w f xs := fun z9 => by have z8 := hFr; rw [z9, he9] at z8; rcases hr9 with ⟨_, _, _, h, _⟩ | ⟨_, _, h, _⟩ | ⟨_, _, h, _⟩ | ⟨_, _, h, _⟩ | ⟨_, _, h, _⟩ <;> (rw [h] at z8; cases z8)
  have ne11 : out ≠ rwA σ w f xs := fun z9 => by have z8 := hO; rw [z9, he9] at z8; rcases hr9 with ⟨_, _, _, h, _⟩ | ⟨_, _, h, _⟩ | ⟨_, _, h, _⟩ | ⟨_, _, h, _⟩ | ⟨_, _, h, _⟩ <;> (rw [h] at z8; cases z8)
  obtain ⟨w8, ew8⟩ : ∃ z9 : mW, (sfW w f xs (wdL (av y) (w 19 (3 * m + y)) (w 17 f))) = z9 := ⟨_, rfl⟩
  rw [ew8] at hX1 hs1 hw1 hOf1 f0w f11w f27w f34w; simp only [ew8] at f171 f131 hsv1
  have o12 : (zup M (rwA σ w f xs) er8) b = some (.inr (14, [.ref (σ 20 (m)), .ref (σ 0 (0)), va_rf (xo σ 20 (f)), .ref (σ 0 (0)), .int (iI (y)), .ref (σ 0 (0))])) := (zup_n ne9).trans hb
  have o13 : (zup M (rwA σ w f xs) er8) fr = some (.inr (26, [va_rf (xo σ 30 (xs)), .ref (ar), .ref (out), .int (iI (dp))])) := (zup_n ne10).trans hFr
  have o14 : (zup M (rwA σ w f xs) er8) out = some (.inr (6, [.int (iI (k1)), .long (lI (b1)), va_rf (t1)])) := (zup_n ne11).trans hO
  obtain ⟨M1, eM1⟩ : ∃ z9 : zMap, zup M (rwA σ w f xs) er8 = z9 := ⟨_, rfl⟩
  rw [eM1]
  rw [eM1] at hX1 o12 o13 o14
  have fx19 : zFx out M1 M1 := zFx.rf
  have hS1 := hs1.S
  refine z_aload_n C 19 1 dX14_work_18 rfl rfl ?_
  refine z_getf C hκ (v := .ref (out)) 22 2 zk_X26 o13 (by decide) q1751 (Or.inl rfl) rfl dX14_work_19 rfl ?_
  refine z_aload_n C 23 0 dX14_work_22 rfl rfl ?_
  refine z_getf C hκ (v := .ref (σ 20 (m))) 26 0 zk_X14 o12 (by decide) q777 (Or.inr q778) rfl dX14_work_23 rfl ?_
  have e178 := f171 m
  have k178 : -1 ≤ w8 17 m := by omega
  obtain ⟨f15a, f15b, f15c, f15d⟩ := hS1.M (show 0 ≤ m by omega) (by omega)
  refine z_getf C hκ (v := va_rf (xo σ 10 (w8 17 (m)))) 29 5 zk_X9 (hX1.mem (by omega) (by omega)) (by decide) q670 (Or.inl rfl) rfl dX14_work_26 rfl ?_
  refine z_callV (As := [va_rf (xo σ 10 (w8 17 (m)))]) (rest := []) C hκ hκl 32 (k6_clear hX1 hs1 hw1 hT (out) (k1) (b1) (t1) (w8 17 (m)) o14 ⟨by omega, by omega⟩) dX14_work_29 q1870 q1789 q1790 q96 q1791 znX6_clear (Nat.le_of_ble_eq_true rfl) (Nat.le_of_ble_eq_true rfl) (Nat.le_of_ble_eq_true rfl) (Nat.le_of_ble_eq_true rfl) (zrec_P o14) rfl rfl (Nat.le_of_ble_eq_true rfl) rfl (fun v9 Q9 h9 => ?_)
  obtain ⟨rfl, rfl⟩ := h9
  obtain ⟨M2, eM2⟩ : ∃ z9 : zMap, zup M1 out (.inr (6, [.int (iI (clK (w8 17 (m)))), .long (lI (0)), .null]) : va_E) = z9 := ⟨_, rfl⟩
  rw [eM2]
  have o16 : M2 b = some (.inr (14, [.ref (σ 20 (m)), .ref (σ 0 (0)), va_rf (xo σ 20 (f)), .ref (σ 0 (0)), .int (iI (y)), .ref (σ 0 (0))])) := eM2 ▸ (zup_n ne2).trans o12
  have o17 : M2 fr = some (.inr (26, [va_rf (xo σ 30 (xs)), .ref (ar), .ref (out), .int (iI (dp))])) := eM2 ▸ (zup_n ne3).trans o13
  have hX18 : xM θ σ w8 (xL w8) M2 := eM2 ▸ hX1.up hOf1
  have o19 : M2 out = some (.inr (6, [.int (iI (clK (w8 17 (m)))), .long (lI (0)), .null])) := eM2 ▸ zup_s
  refine z_as (st' := []) rfl rfl rfl ?_
  exact z_vret C dX14_work_32 (Nat.le_of_ble_eq_true rfl) (Nat.le_of_ble_eq_true rfl) ⟨rfl, M2, rfl, (ew8 ▸ hX18), (by have h9 := o19; rw [f171] at h9; exact h9), xKp.row hX hs hF ⟨hf0, hf.2⟩ hfd hxs hag (by have e9 := eM2; have e8 := eM1; intro a9 b9 c9 d9; rw [← e9]; rw [e8] at c9; exact (zup_n d9).trans c9)⟩
