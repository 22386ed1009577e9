/-! ===== store ===== -/
def soG (w : mW) (x i z : Int) : Int := if x < 0 then 1 else if w 29 x = -1 ∨ w 4 (w 28 x) < 8 then 8 else if i < 0 ∨ w 29 x ≤ i then 3 else if 0 ≤ z ∧ isa w (w 28 z) (w 4 (w 28 x)) = false then 4 else 0
/-- what lies in a row of things is of the row's type -/
def xIt (w : mW) : Prop := ∀ x k : Int, 0 ≤ x → x < w 27 0 → w 29 x ≠ -1 → 0 ≤ k → k < w 29 x → 8 ≤ w 4 (w 28 x) → 0 ≤ w 31 (20 * x + k) → isa w (w 28 (w 31 (20 * x + k))) (w 4 (w 28 x)) = true
theorem xRow_up {θ : zTh} {σ : xA} {w : mW} {t i z : Int} {len : Nat} {v : Nat → Int} {g : Nat → Option Nat} (h8 : 8 ≤ t) (h0 : 0 ≤ i) (r3 : ∀ j, j < len → g j = xo σ 30 (v j)) : xRow θ σ w t len (svU v i z) (.inl (xcA θ w t, len, xQ (va_up g i.toNat (xo σ 30 z)))) := by
  refine Or.inr (Or.inr (Or.inr (Or.inr ⟨h8, _, rfl, fun j hj => ?_⟩)))
  unfold va_up svU
  by_cases e : (j : Int) = i
  · rw [if_pos (by omega), if_pos e]
  · rw [if_neg (by omega), if_neg e]; exact r3 j hj
theorem zup_back {M : zMap} {a : Nat} {c : ClassId} {len k : Nat} {g : Nat → Option Nat} {u v : Option Nat} (h : M a = some (.inl (c, len, xQ g))) (hv : g k = v) : zup (zup M a (.inl (c, len, xQ (va_up g k u)))) a (.inl (c, len, xQ (va_up (va_up g k u) k v))) = M := by
  have e : va_up (va_up g k u) k v = g := by
    funext j; unfold va_up
    by_cases h9 : j = k
    · rw [if_pos h9, h9, hv]
    · rw [if_neg h9, if_neg h9]
  rw [e]
  funext b
  unfold zup
  by_cases h9 : b = a
  · rw [if_pos h9, h9, h]
  · rw [if_neg h9, if_neg h9]
theorem so_ld {w : mW} {x i z c : Int} (h0 : 0 ≤ x) (h9 : w 29 x ≠ -1) (h8 : 8 ≤ w 4 (w 28 x)) (h : ldE (w 4 (w 28 x)) (w 29 x).toNat i 8 = c) (hc : c ≠ 0) : soG w x i z = c := by
  unfold ldE at h
  unfold soG
  rw [if_neg (by omega), if_neg (by omega)]
  by_cases hi : i < 0 ∨ w 29 x ≤ i
  · rw [if_pos hi]; repeat' split at h <;> omega
  · rw [if_neg hi]; exfalso; repeat' split at h <;> omega
theorem so_go {w : mW} (hs : xS w) {z t : Int} (hz : -1 ≤ z ∧ z < w 27 0) (ht : 8 ≤ t ∧ t < w 0 0) (h : goG w 8 z t = false) : 0 ≤ z ∧ isa w (w 28 z) t = false := by
  unfold goG at h
  rw [if_pos rfl] at h
  by_cases h0 : 0 ≤ z
  · refine ⟨h0, ?_⟩
    rw [← gi_isa (hs.2.1.X h0 hz.2).1.1 ht.1]
    simp [ht.1, show ¬ z < 0 by omega] at h
    exact h
  · simp [ht.1, show z < 0 by omega] at h
theorem so_og {w : mW} (hs : xS w) {z t : Int} (hz : -1 ≤ z ∧ z < w 27 0) (ht : 8 ≤ t ∧ t < w 0 0) (h : goG w 8 z t = true) : ¬ (0 ≤ z ∧ isa w (w 28 z) t = false) := by
  rintro ⟨h0, h1⟩
  rw [← gi_isa (hs.2.1.X h0 hz.2).1.1 ht.1] at h1
  unfold goG at h
  rw [if_pos rfl, h1] at h
  simp [show ¬ z < 0 by omega] at h

set_option maxRecDepth 100000 in
theorem k0_store {l : Launch} {θ : zTh} {σ : xA} {w : mW} {M N : zMap} (hX : xM θ σ w (xL w) M) (hs : xS w) (hw : mWF w) (hT : zTb θ) (hZ : zTx θ l) (x : Int) (i : Int) (c : Nat) (b0 : Int) (z : Int) (r_i : inR i) (hx : -1 ≤ x ∧ x < w 27 0) (hz : -1 ≤ z ∧ z < w 27 0) (hV : mV w) (hIt : xIt w) (hTh : ∀ x : Int, 0 ≤ x → x < w 27 0 → w 29 x = -1 → w 1 (w 28 x) ≠ 4) (hC9 : M c = some (.inr (6, [.int (iI 8), .long (lI b0), va_rf (xo σ 30 z)]))) : zMX θ l yX0_store (ws_ yX0_store cX0_store 6 none) ⟨248, 8, 1600, 10250⟩ [.ref (σ 0 (0)), va_rf (xo σ 30 (x)), .int (iI (i)), .ref (c)] (zP θ M N) (fun v9 Q9 => v9 = none ∧ soG w x i z = 0 ∧ ∃ e' : va_E, xRow θ σ w (w 4 (w 28 x)) (w 29 x).toNat (svU (fun j : Nat => w 31 (20 * x + j)) i z) e' ∧ Q9 = zP θ (zup M (σ 32 (x)) e') N) (fun E9 b9 Q9 => ∃ (M1 : zMap) (c9 : Int), Q9 = zP θ M1 N ∧ zGe M M1 ∧ soG w x i z = c9 ∧ c9 ≠ 0 ∧ xEx M1 b9 E9 c9) := by
  refine zx_start (own := RX0) (nm := "store") pnX0 rfl rfl (by cases (xo σ 30 (x)) <;> exact Nat.le_of_ble_eq_true rfl) ?_
  intro κ hκ hκl C XX
  refine z_as (lv' := [(0, .ref (σ 0 (0))), (1, va_rf (xo σ 30 (x))), (2, .int (iI (i))), (3, .ref (c))]) rfl (by cases (xo σ 30 (x)) <;> rfl) rfl ?_
  change Z κ (zP θ M N) 0 0 0 [(0, .ref (σ 0 (0))), (1, va_rf (xo σ 30 (x))), (2, .int (iI (i))), (3, .ref (c))] []
  have hS := hs.S
  have hB := hS.B
  obtain ⟨hB1, hB2, hB3, hB4, hB5, hB6⟩ := hS.B
  have hC := hS.C
  obtain ⟨h81, h82⟩ := hs.r8
  refine z_aload_nq C 1 1 dX0_store_0 rfl rfl ?_
  rcases Int.lt_or_le x 0 with n1 | n1
  · skip
    rw [xo_n n1]
    refine z_as (st' := [.null]) (lv' := [(0, .ref (σ 0 (0))), (1, .null), (2, .int (iI (i))), (3, .ref (c))]) rfl rfl rfl ?_
    refine x_castN C 4 dX0_store_1 rfl ?_
    refine zx_getfN (rest := []) C hκ hκl hT hZ 3 zk_X27 (by decide) q1882 (Or.inl rfl) dX0_store_4 (Nat.le_of_ble_eq_true rfl) (Nat.le_of_ble_eq_true rfl) (Nat.le_of_ble_eq_true rfl) (Nat.le_of_ble_eq_true rfl) (Nat.le_of_ble_eq_true rfl) (fun b9 => ?_)
    refine zx_out C hκ hT XX (fun z9 h9 => by cases h9) ⟨M, 1, rfl, zGe.rf, (by unfold soG; rw [if_pos (by omega)]), by decide, Or.inr (Or.inl ⟨rfl, rfl⟩)⟩ (Nat.le_of_ble_eq_true rfl) (Nat.le_of_ble_eq_true rfl)
  · skip
    rw [xo_y n1]
    refine z_as (st' := [.ref (σ 30 (x))]) (lv' := [(0, .ref (σ 0 (0))), (1, .ref (σ 30 (x))), (2, .int (iI (i))), (3, .ref (c))]) rfl rfl rfl ?_
    by_cases n2 : w 29 x = -1
    · skip
      refine zx_castNo (rest := []) C hκ hκl hT hZ (hX.one (by omega) hx.2 n2) (show zCl[24]? = some ("ReflectMirror$One", _, _) from rfl) q1674 (by decide +kernel) xpk_.2.2.2.2.2.2.2.2.2.1 xpk_.2.2.2.2.2.2.2.2.2.2 xmg_8 dX0_store_1 (Nat.le_of_ble_eq_true rfl) (Nat.le_of_ble_eq_true rfl) (Nat.le_of_ble_eq_true rfl) (Nat.le_of_ble_eq_true rfl) (Nat.le_of_ble_eq_true rfl) (fun b9 => ?_)
      refine zx_out C hκ hT XX (fun z9 h9 => by cases h9) ⟨M, 8, rfl, zGe.rf, (by unfold soG; rw [if_neg (by omega), if_pos (by omega)]), by decide, Or.inr (Or.inr (Or.inr (Or.inr (Or.inr (Or.inr ⟨rfl, rfl⟩)))))⟩ (Nat.le_of_ble_eq_true rfl) (Nat.le_of_ble_eq_true rfl)
    · skip
      have h99 := n2
      obtain ⟨e9, he9, hr9⟩ := xM.itm hX (by omega) hx.2 h99
      have hxx9 := hS.X (show 0 ≤ x by omega) hx.2
      have hx29 := hxx9.2.1
      have hxxa9 := hxx9.1
      have ht09 := (hxx9.2.2 h99).2
      have htt9 := (hS.T (t := w 28 x) (by omega) hxx9.1.2).2.2.2.1
      refine z_castS C hκ 4 (hX.many (by omega) hx.2 h99) rfl q1674 dX0_store_1 rfl ?_
      obtain ⟨f3a, f3b, f3c⟩ := hS.X (show 0 ≤ x by omega) (by omega)
      refine z_getf C hκ (v := .ref (σ 32 (x))) 7 3 zk_X27 (hX.many (by omega) (by omega) n2) (by decide) q1882 (Or.inl rfl) rfl dX0_store_4 rfl ?_
      rcases hr9 with ⟨r1, r2, g9, rfl, r3⟩ | ⟨r1, g9, rfl, r3⟩ | ⟨r1, g9, rfl, r3⟩ | ⟨r1, g9, rfl, r3⟩ | ⟨r1, g9, rfl, r3⟩
      · skip
        rcases (show w 4 (w 28 x) = 0 ∨ w 4 (w 28 x) = 1 ∨ w 4 (w 28 x) = 2 ∨ w 4 (w 28 x) = 3 ∨ w 4 (w 28 x) = 4 by omega) with r9 | r9 | r9 | r9 | r9 <;> rw [r9] at he9
        · skip
          refine zx_castAN (rest := []) C hκ hκl hT hZ 0 he9 rfl rfl q1573 (by decide +kernel) xpk_.1 xpk_.2.2.2.2.2.2.2.2.1 xmg_0 dX0_store_7 (Nat.le_of_ble_eq_true rfl) (Nat.le_of_ble_eq_true rfl) (Nat.le_of_ble_eq_true rfl) (Nat.le_of_ble_eq_true rfl) (Nat.le_of_ble_eq_true rfl) (fun b9 => ?_)
          refine zx_out C hκ hT XX (fun z9 h9 => by cases h9) ⟨M, 8, rfl, zGe.rf, (by unfold soG; rw [if_neg (by omega), if_pos (by omega)]), by decide, Or.inr (Or.inr (Or.inr (Or.inr (Or.inr (Or.inr ⟨rfl, rfl⟩)))))⟩ (Nat.le_of_ble_eq_true rfl) (Nat.le_of_ble_eq_true rfl)
        · skip
          refine zx_castAN (rest := []) C hκ hκl hT hZ 1 he9 rfl rfl q1573 (by decide +kernel) xpk_.2.1 xpk_.2.2.2.2.2.2.2.2.1 xmg_1 dX0_store_7 (Nat.le_of_ble_eq_true rfl) (Nat.le_of_ble_eq_true rfl) (Nat.le_of_ble_eq_true rfl) (Nat.le_of_ble_eq_true rfl) (Nat.le_of_ble_eq_true rfl) (fun b9 => ?_)
          refine zx_out C hκ hT XX (fun z9 h9 => by cases h9) ⟨M, 8, rfl, zGe.rf, (by unfold soG; rw [if_neg (by omega), if_pos (by omega)]), by decide, Or.inr (Or.inr (Or.inr (Or.inr (Or.inr (Or.inr ⟨rfl, rfl⟩)))))⟩ (Nat.le_of_ble_eq_true rfl) (Nat.le_of_ble_eq_true rfl)
        · skip
          refine zx_castAN (rest := []) C hκ hκl hT hZ 2 he9 rfl rfl q1573 (by decide +kernel) xpk_.2.2.1 xpk_.2.2.2.2.2.2.2.2.1 xmg_2 dX0_store_7 (Nat.le_of_ble_eq_true rfl) (Nat.le_of_ble_eq_true rfl) (Nat.le_of_ble_eq_true rfl) (Nat.le_of_ble_eq_true rfl) (Nat.le_of_ble_eq_true rfl) (fun b9 => ?_)
          refine zx_out C hκ hT XX (fun z9 h9 => by cases h9) ⟨M, 8, rfl, zGe.rf, (by unfold soG; rw [if_neg (by omega), if_pos (by omega)]), by decide, Or.inr (Or.inr (Or.inr (Or.inr (Or.inr (Or.inr ⟨rfl, rfl⟩)))))⟩ (Nat.le_of_ble_eq_true rfl) (Nat.le_of_ble_eq_true rfl)
        · skip
          refine zx_castAN (rest := []) C hκ hκl hT hZ 3 he9 rfl rfl q1573 (by decide +kernel) xpk_.2.2.2.1 xpk_.2.2.2.2.2.2.2.2.1 xmg_3 dX0_store_7 (Nat.le_of_ble_eq_true rfl) (Nat.le_of_ble_eq_true rfl) (Nat.le_of_ble_eq_true rfl) (Nat.le_of_ble_eq_true rfl) (Nat.le_of_ble_eq_true rfl) (fun b9 => ?_)
          refine zx_out C hκ hT XX (fun z9 h9 => by cases h9) ⟨M, 8, rfl, zGe.rf, (by unfold soG; rw [if_neg (by omega), if_pos (by omega)]), by decide, Or.inr (Or.inr (Or.inr (Or.inr (Or.inr (Or.inr ⟨rfl, rfl⟩)))))⟩ (Nat.le_of_ble_eq_true rfl) (Nat.le_of_ble_eq_true rfl)
        · skip
          refine zx_castAN (rest := []) C hκ hκl hT hZ 4 he9 rfl rfl q1573 (by decide +kernel) xpk_.2.2.2.2.1 xpk_.2.2.2.2.2.2.2.2.1 xmg_4 dX0_store_7 (Nat.le_of_ble_eq_true rfl) (Nat.le_of_ble_eq_true rfl) (Nat.le_of_ble_eq_true rfl) (Nat.le_of_ble_eq_true rfl) (Nat.le_of_ble_eq_true rfl) (fun b9 => ?_)
          refine zx_out C hκ hT XX (fun z9 h9 => by cases h9) ⟨M, 8, rfl, zGe.rf, (by unfold soG; rw [if_neg (by omega), if_pos (by omega)]), by decide, Or.inr (Or.inr (Or.inr (Or.inr (Or.inr (Or.inr ⟨rfl, rfl⟩)))))⟩ (Nat.le_of_ble_eq_true rfl) (Nat.le_of_ble_eq_true rfl)
      · skip
        refine zx_castAN (rest := []) C hκ hκl hT hZ 5 he9 rfl rfl q1573 (by decide +kernel) xpk_.2.2.2.2.2.1 xpk_.2.2.2.2.2.2.2.2.1 xmg_5 dX0_store_7 (Nat.le_of_ble_eq_true rfl) (Nat.le_of_ble_eq_true rfl) (Nat.le_of_ble_eq_true rfl) (Nat.le_of_ble_eq_true rfl) (Nat.le_of_ble_eq_true rfl) (fun b9 => ?_)
        refine zx_out C hκ hT XX (fun z9 h9 => by cases h9) ⟨M, 8, rfl, zGe.rf, (by unfold soG; rw [if_neg (by omega), if_pos (by omega)]), by decide, Or.inr (Or.inr (Or.inr (Or.inr (Or.inr (Or.inr ⟨rfl, rfl⟩)))))⟩ (Nat.le_of_ble_eq_true rfl) (Nat.le_of_ble_eq_true rfl)
      · skip
        refine zx_castAN (rest := []) C hκ hκl hT hZ 6 he9 rfl rfl q1573 (by decide +kernel) xpk_.2.2.2.2.2.2.1 xpk_.2.2.2.2.2.2.2.2.1 xmg_6 dX0_store_7 (Nat.le_of_ble_eq_true rfl) (Nat.le_of_ble_eq_true rfl) (Nat.le_of_ble_eq_true rfl) (Nat.le_of_ble_eq_true rfl) (Nat.le_of_ble_eq_true rfl) (fun b9 => ?_)
        refine zx_out C hκ hT XX (fun z9 h9 => by cases h9) ⟨M, 8, rfl, zGe.rf, (by unfold soG; rw [if_neg (by omega), if_pos (by omega)]), by decide, Or.inr (Or.inr (Or.inr (Or.inr (Or.inr (Or.inr ⟨rfl, rfl⟩)))))⟩ (Nat.le_of_ble_eq_true rfl) (Nat.le_of_ble_eq_true rfl)
      · skip
        refine zx_castAN (rest := []) C hκ hκl hT hZ 7 he9 rfl rfl q1573 (by decide +kernel) xpk_.2.2.2.2.2.2.2.1 xpk_.2.2.2.2.2.2.2.2.1 xmg_7 dX0_store_7 (Nat.le_of_ble_eq_true rfl) (Nat.le_of_ble_eq_true rfl) (Nat.le_of_ble_eq_true rfl) (Nat.le_of_ble_eq_true rfl) (Nat.le_of_ble_eq_true rfl) (fun b9 => ?_)
        refine zx_out C hκ hT XX (fun z9 h9 => by cases h9) ⟨M, 8, rfl, zGe.rf, (by unfold soG; rw [if_neg (by omega), if_pos (by omega)]), by decide, Or.inr (Or.inr (Or.inr (Or.inr (Or.inr (Or.inr ⟨rfl, rfl⟩)))))⟩ (Nat.le_of_ble_eq_true rfl) (Nat.le_of_ble_eq_true rfl)
      · skip
        have hx9 : xcA θ w (w 4 (w 28 x)) = θ.2.1 10 ∨ xcA θ w (w 4 (w 28 x)) = θ.2.1 13 ∨ xcA θ w (w 4 (w 28 x)) = θ.2.1 12 := by unfold xcA; split; exact Or.inl rfl; split; exact Or.inr (Or.inl rfl); exact Or.inr (Or.inr rfl)
        rcases hx9 with hx9 | hx9 | hx9
        · skip
          refine z_castA C hκ 10 10 he9 (show (zTys θ)[10]? = some (xcA θ w (w 4 (w 28 x)), .object "ReflectMirror$Thing") by rw [hx9]; rfl) rfl q1573 dX0_store_7 rfl ?_
          refine z_astore (lv' := [(0, .ref (σ 0 (0))), (1, .ref (σ 30 (x))), (2, .int (iI (i))), (3, .ref (c)), (4, .ref (σ 32 (x)))]) C 12 [1, 2, 3, 4, 0] dX0_store_10 (by decide) rfl rfl ?_
          refine z_aload C 14 4 dX0_store_12 rfl rfl ?_
          refine z_iload_n C 15 2 dX0_store_14 rfl rfl ?_
          refine x_ld8 (rest := []) C hκ hκl hT hZ 16 he9 (Or.inr (Or.inr (Or.inr (Or.inr ⟨r1, g9, rfl, r3⟩)))) r1 (by omega) r_i dX0_store_15 (Nat.le_of_ble_eq_true rfl) (Nat.le_of_ble_eq_true rfl) (Nat.le_of_ble_eq_true rfl) (Nat.le_of_ble_eq_true rfl) (Nat.le_of_ble_eq_true rfl) rfl (fun n4 => ?_) (fun E9 c9 b9 hE9 hc9 hz9 => ?_)
          rotate_left 1
          · skip
            refine zx_out C hκ hT XX (fun z9 h9 => by cases h9) ⟨M, c9, rfl, zGe.rf, (so_ld (by omega) h99 r1 hE9 hc9), hc9, Or.inr hz9⟩ (Nat.le_of_ble_eq_true rfl) (Nat.le_of_ble_eq_true rfl)
          have hin9 := (ld_08 n4).2
          refine z_as (st' := [va_rf (xo σ 30 ((fun j : Nat => w 31 (20 * x + j)) i.toNat))]) rfl rfl rfl ?_
          refine z_astoreq (lv' := [(0, .ref (σ 0 (0))), (1, .ref (σ 30 (x))), (2, .int (iI (i))), (3, .ref (c)), (4, .ref (σ 32 (x))), (5, va_rf (xo σ 30 ((fun j : Nat => w 31 (20 * x + j)) i.toNat)))]) C 18 [1, 2, 3, 4, 5, 0] dX0_store_16 (by decide) rfl rfl ?_
          refine z_aload C 20 4 dX0_store_18 rfl rfl ?_
          refine z_iload_n C 21 2 dX0_store_20 rfl rfl ?_
          refine z_aload_n C 22 3 dX0_store_21 rfl rfl ?_
          refine z_getf C hκ (v := va_rf (xo σ 30 (z))) 25 2 zk_X6 hC9 (by decide) q254 (Or.inl rfl) rfl dX0_store_22 rfl ?_
          have htt9b : 8 ≤ w 4 (w 28 x) ∧ w 4 (w 28 x) < w 0 0 := ⟨r1, by omega⟩
          refine x_aast (rest := []) C hκ hκl hT hZ hX hs 26 he9 r1 htt9b.2 hz hTh hin9.1 (by omega) (by omega) dX0_store_25 (Nat.le_of_ble_eq_true rfl) (Nat.le_of_ble_eq_true rfl) (Nat.le_of_ble_eq_true rfl) (Nat.le_of_ble_eq_true rfl) (Nat.le_of_ble_eq_true rfl) rfl ?_ (fun c9 d9 b9 => ?_)
          rotate_left 1
          · skip
            refine zx_out C hκ hT XX (fun z9 h9 => by cases h9) ⟨M, 4, rfl, zGe.rf, (by unfold soG; rw [if_neg (by omega), if_neg (by omega), if_neg (by omega), if_pos ⟨c9, d9⟩]), by decide, Or.inr (Or.inr (Or.inr (Or.inr (Or.inl ⟨rfl, rfl⟩))))⟩ (Nat.le_of_ble_eq_true rfl) (Nat.le_of_ble_eq_true rfl)
          have hX1 := hX.s31 hs (v := z) ⟨(by omega : 0 ≤ x), hx.2⟩ h99 ⟨hin9.1, by omega⟩ (xRow_up (w := w) r1 hin9.1 r3)
          have hs1 := xS_V (sV_31 (a := 20 * x + i) (v := z)) hs
          have hw1 : mWF (mset w 31 (20 * x + i) z) := hw.setL ⟨by omega, by omega⟩ rfl rfl
          have he1 : zup M (σ 32 (x)) (.inl (xcA θ w (w 4 (w 28 x)), (w 29 x).toNat, xQ (va_up g9 i.toNat (xo σ 30 z)))) (σ 32 (x)) = some (.inl (xcA θ (mset w 31 (20 * x + i) z) ((mset w 31 (20 * x + i) z) 4 ((mset w 31 (20 * x + i) z) 28 x)), (w 29 x).toNat, xQ (va_up g9 i.toNat (xo σ 30 z)))) := zup_s
          have hb1 := zup_back (u := xo σ 30 z) he9 (r3 i.toNat (by omega))
          have hc1 := (zup_n (e := (.inl (xcA θ w (w 4 (w 28 x)), (w 29 x).toNat, xQ (va_up g9 i.toNat (xo σ 30 z))))) (show c ≠ σ 32 (x) from fun e => by rw [e, he9] at hC9; cases hC9)).trans hC9
          have hq1 : ∀ k z2 t : Int, goG (mset w 31 (20 * x + i) z) k z2 t = goG w k z2 t := fun _ _ _ => rfl
          have hh1 : ∀ x9 : Int, 0 ≤ x9 → x9 < (mset w 31 (20 * x + i) z) 27 0 → (mset w 31 (20 * x + i) z) 29 x9 = -1 → (mset w 31 (20 * x + i) z) 1 ((mset w 31 (20 * x + i) z) 28 x9) ≠ 4 := hTh
          have hi1 : ∀ a b : Int, isa (mset w 31 (20 * x + i) z) a b = isa w a b := fun _ _ => rfl
          have f0w : (mset w 31 (20 * x + i) z) 0 0 = w 0 0 := rfl
          have f11w : (mset w 31 (20 * x + i) z) 11 0 = w 11 0 := rfl
          have f27w : (mset w 31 (20 * x + i) z) 27 0 = w 27 0 := rfl
          have f34w : (mset w 31 (20 * x + i) z) 34 0 = w 34 0 := rfl
          have f28w : (mset w 31 (20 * x + i) z) 28 x = w 28 x := rfl
          have f4w : ∀ t : Int, (mset w 31 (20 * x + i) z) 4 t = w 4 t := fun _ => rfl
          have f28v : ∀ t : Int, (mset w 31 (20 * x + i) z) 28 t = w 28 t := fun _ => rfl
          obtain ⟨w9, ew9⟩ : ∃ z9 : mW, (mset w 31 (20 * x + i) z) = z9 := ⟨_, rfl⟩
          rw [ew9] at hX1 hs1 hw1 he1 f0w f11w f27w f34w f28w; simp only [ew9] at hq1 hh1 hi1 f4w f28v
          obtain ⟨M1, eM1⟩ : ∃ z9 : zMap, zup M (σ 32 (x)) (.inl (xcA θ w (w 4 (w 28 x)), (w 29 x).toNat, xQ (va_up g9 i.toNat (xo σ 30 z)))) = z9 := ⟨_, rfl⟩
          rw [eM1]
          rw [eM1] at hX1 he1 hc1
          rw [eM1] at hb1
          have hS1 := hs1.S
          obtain ⟨f28a, f28b⟩ := (hS1.X (show 0 ≤ x by omega) (by omega)).1
          have f4x : w9 4 (w9 28 x) = w 4 (w 28 x) := by rw [f4w, f28w]
          refine z_aload_n C 27 0 dX0_store_26 rfl rfl ?_
          refine z_aload_n C 28 3 dX0_store_27 rfl rfl ?_
          refine z_aload_n C 29 1 dX0_store_28 rfl rfl ?_
          obtain ⟨f5a, f5b, f5c⟩ := hS1.X (show 0 ≤ x by omega) (by omega)
          refine x_pget (v := .ref (σ 10 (w9 28 (x)))) C hκ 32 1 hX1 (by omega) (by omega) (by decide) rfl q1274 (Or.inl rfl) rfl dX0_store_29 rfl ?_
          obtain ⟨f6a, f6b, f6c, f6d, f6e, f6f, f6g, f6h⟩ := hS1.T (show 0 ≤ w9 28 (x) by omega) (by omega)
          obtain ⟨f6i, f6j, f6k, f6l⟩ := hs1.ty (show 0 ≤ w9 28 (x) by omega) (by omega)
          refine xv_of (rest := [.ref (c), .ref (σ 0 (0))]) C hκ hκl hX1 hs1 hw1 hT (w9 28 (x))   ⟨(by omega), (by omega)⟩  35 dX0_store_32 q532 (Nat.le_of_ble_eq_true rfl) (Nat.le_of_ble_eq_true rfl) (Nat.le_of_ble_eq_true rfl) (Nat.le_of_ble_eq_true rfl) (Nat.le_of_ble_eq_true rfl) rfl ?_
          refine z_as (st' := [va_rf (xo σ 10 (w9 4 (w9 28 (x)))), .ref (c), .ref (σ 0 (0))]) rfl rfl rfl ?_
          have y7 : 0 ≤ w9 4 (w9 28 (x)) := (by omega)
          rw [xo_y y7]
          refine z_as (st' := [.ref (σ 10 (w9 4 (w9 28 (x)))), .ref (c), .ref (σ 0 (0))]) (lv' := [(0, .ref (σ 0 (0))), (1, .ref (σ 30 (x))), (2, .int (iI (i))), (3, .ref (c)), (4, .ref (σ 32 (x))), (5, va_rf (xo σ 30 ((fun j : Nat => w 31 (20 * x + j)) i.toNat)))]) rfl rfl rfl ?_
          refine z_callV (As := [.ref (c), .ref (σ 10 (w9 4 (w9 28 (x))))]) (rest := []) C hκ hκl 38 (k0_goesInto hX1 hs1 hw1 hT (c) (8) (b0) (z) (w9 4 (w9 28 (x))) ⟨by omega, by omega⟩ ⟨by omega, by omega⟩ ⟨by omega, by omega⟩ hc1) dX0_store_35 q1582 q1584 qs23 q90 q1585 znX0_goesInto (Nat.le_of_ble_eq_true rfl) (Nat.le_of_ble_eq_true rfl) (Nat.le_of_ble_eq_true rfl) (Nat.le_of_ble_eq_true rfl) (zrec_P hX1.o) rfl rfl (Nat.le_of_ble_eq_true rfl) rfl (fun v9 Q9 h9 => ?_)
          obtain ⟨rfl, rfl⟩ := h9
          refine z_as (st' := [.int (iI (bI (goG w9 (8) (z) (w9 4 (w9 28 (x))))))]) rfl rfl rfl ?_
          refine z_ifB_ne C 55 41 dX0_store_38 (by decide) rfl (fun c8 => ?_) (fun c8 => ?_)
          · skip
            exact z_vret C dX0_store_55 (Nat.le_of_ble_eq_true rfl) (Nat.le_of_ble_eq_true rfl) ⟨rfl, (by unfold soG; rw [if_neg (by omega), if_neg (by omega), if_neg (by omega), if_neg (so_og hs hz htt9b (by rw [← hq1, ← f4x]; clear C hκ hκl XX; simp_all))]), _, xRow_up r1 hin9.1 r3, congrArg (fun M9 => zP θ M9 N) eM1.symm⟩
          · skip
            refine z_aload C 43 4 dX0_store_41 rfl rfl ?_
            refine z_iload_n C 44 2 dX0_store_43 rfl rfl ?_
            refine z_aloadq C 46 5 dX0_store_44 rfl rfl ?_
            have ho9 : -1 ≤ ((fun j : Nat => w 31 (20 * x + j)) i.toNat) ∧ ((fun j : Nat => w 31 (20 * x + j)) i.toNat) < w 27 0 := by have h9 := hV.2.2.2.1 x i (by omega) hx.2 hin9.1 (by omega) h99; have e9 : 20 * x + ((i.toNat : Nat) : Int) = 20 * x + i := (by omega); show -1 ≤ w 31 (20 * x + ((i.toNat : Nat) : Int)) ∧ w 31 (20 * x + ((i.toNat : Nat) : Int)) < w 27 0; rw [e9]; unfold ftB at h9; (repeat rw [if_neg (by omega)] at h9); simp at h9; omega
            refine x_aast (rest := []) C hκ hκl hT hZ hX1 hs1 47 he1 (by omega) (by omega) ⟨ho9.1, by omega⟩ hh1 hin9.1 (by omega) (by omega) dX0_store_46 (Nat.le_of_ble_eq_true rfl) (Nat.le_of_ble_eq_true rfl) (Nat.le_of_ble_eq_true rfl) (Nat.le_of_ble_eq_true rfl) (Nat.le_of_ble_eq_true rfl) rfl ?_ (fun c9 d9 b9 => ?_)
            rotate_left 1
            · exfalso; rw [hi1, f28v, f4x] at d9; have h9 := hIt x i (by omega) hx.2 h99 hin9.1 (by omega) r1; have e9 : 20 * x + ((i.toNat : Nat) : Int) = 20 * x + i := (by omega); simp only [e9] at c9 d9; rw [h9 c9] at d9; cases d9
            rw [show xcA θ w9 (w9 4 (w9 28 x)) = xcA θ w (w 4 (w 28 x)) by rw [← ew9]; rfl, hb1]
            exact zx_throwS (hh := []) C hκ hκl hT hZ XX dX0_store_47 dX0_store_50 dX0_store_51 dX0_store_54 (Nat.le_of_ble_eq_true rfl) (Nat.le_of_ble_eq_true rfl) (Nat.le_of_ble_eq_true rfl) (Nat.le_of_ble_eq_true rfl) (Nat.le_of_ble_eq_true rfl) (fun b9 => ⟨M, 4, rfl, zGe.rf, (by unfold soG; rw [if_neg (by omega), if_neg (by omega), if_neg (by omega), if_pos (so_go hs hz htt9b (by rw [← hq1, ← f4x]; clear C hκ hκl XX; simp_all))]), by decide, Or.inr (Or.inr (Or.inr (Or.inr (Or.inl ⟨rfl, rfl⟩))))⟩)
        · skip
          refine z_castAY C hκ 10 13 he9 (show (zTys θ)[13]? = some (xcA θ w (w 4 (w 28 x)), .object "ReflectMirror$Many") by rw [hx9]; rfl) hT.2.2.2.1 q1573 dX0_store_7 rfl ?_
          refine z_astore (lv' := [(0, .ref (σ 0 (0))), (1, .ref (σ 30 (x))), (2, .int (iI (i))), (3, .ref (c)), (4, .ref (σ 32 (x)))]) C 12 [1, 2, 3, 4, 0] dX0_store_10 (by decide) rfl rfl ?_
          refine z_aload C 14 4 dX0_store_12 rfl rfl ?_
          refine z_iload_n C 15 2 dX0_store_14 rfl rfl ?_
          refine x_ld8 (rest := []) C hκ hκl hT hZ 16 he9 (Or.inr (Or.inr (Or.inr (Or.inr ⟨r1, g9, rfl, r3⟩)))) r1 (by omega) r_i dX0_store_15 (Nat.le_of_ble_eq_true rfl) (Nat.le_of_ble_eq_true rfl) (Nat.le_of_ble_eq_true rfl) (Nat.le_of_ble_eq_true rfl) (Nat.le_of_ble_eq_true rfl) rfl (fun n9 => ?_) (fun E9 c9 b9 hE9 hc9 hz9 => ?_)
          rotate_left 1
          · skip
            refine zx_out C hκ hT XX (fun z9 h9 => by cases h9) ⟨M, c9, rfl, zGe.rf, (so_ld (by omega) h99 r1 hE9 hc9), hc9, Or.inr hz9⟩ (Nat.le_of_ble_eq_true rfl) (Nat.le_of_ble_eq_true rfl)
          have hin9 := (ld_08 n9).2
          refine z_as (st' := [va_rf (xo σ 30 ((fun j : Nat => w 31 (20 * x + j)) i.toNat))]) rfl rfl rfl ?_
          refine z_astoreq (lv' := [(0, .ref (σ 0 (0))), (1, .ref (σ 30 (x))), (2, .int (iI (i))), (3, .ref (c)), (4, .ref (σ 32 (x))), (5, va_rf (xo σ 30 ((fun j : Nat => w 31 (20 * x + j)) i.toNat)))]) C 18 [1, 2, 3, 4, 5, 0] dX0_store_16 (by decide) rfl rfl ?_
          refine z_aload C 20 4 dX0_store_18 rfl rfl ?_
          refine z_iload_n C 21 2 dX0_store_20 rfl rfl ?_
          refine z_aload_n C 22 3 dX0_store_21 rfl rfl ?_
          refine z_getf C hκ (v := va_rf (xo σ 30 (z))) 25 2 zk_X6 hC9 (by decide) q254 (Or.inl rfl) rfl dX0_store_22 rfl ?_
          have htt9b : 8 ≤ w 4 (w 28 x) ∧ w 4 (w 28 x) < w 0 0 := ⟨r1, by omega⟩
          refine x_aast (rest := []) C hκ hκl hT hZ hX hs 26 he9 r1 htt9b.2 hz hTh hin9.1 (by omega) (by omega) dX0_store_25 (Nat.le_of_ble_eq_true rfl) (Nat.le_of_ble_eq_true rfl) (Nat.le_of_ble_eq_true rfl) (Nat.le_of_ble_eq_true rfl) (Nat.le_of_ble_eq_true rfl) rfl ?_ (fun c9 d9 b9 => ?_)
          rotate_left 1
          · skip
            refine zx_out C hκ hT XX (fun z9 h9 => by cases h9) ⟨M, 4, rfl, zGe.rf, (by unfold soG; rw [if_neg (by omega), if_neg (by omega), if_neg (by omega), if_pos ⟨c9, d9⟩]), by decide, Or.inr (Or.inr (Or.inr (Or.inr (Or.inl ⟨rfl, rfl⟩))))⟩ (Nat.le_of_ble_eq_true rfl) (Nat.le_of_ble_eq_true rfl)
          have hX1 := hX.s31 hs (v := z) ⟨(by omega : 0 ≤ x), hx.2⟩ h99 ⟨hin9.1, by omega⟩ (xRow_up (w := w) r1 hin9.1 r3)
          have hs1 := xS_V (sV_31 (a := 20 * x + i) (v := z)) hs
          have hw1 : mWF (mset w 31 (20 * x + i) z) := hw.setL ⟨by omega, by omega⟩ rfl rfl
          have he1 : zup M (σ 32 (x)) (.inl (xcA θ w (w 4 (w 28 x)), (w 29 x).toNat, xQ (va_up g9 i.toNat (xo σ 30 z)))) (σ 32 (x)) = some (.inl (xcA θ (mset w 31 (20 * x + i) z) ((mset w 31 (20 * x + i) z) 4 ((mset w 31 (20 * x + i) z) 28 x)), (w 29 x).toNat, xQ (va_up g9 i.toNat (xo σ 30 z)))) := zup_s
          have hb1 := zup_back (u := xo σ 30 z) he9 (r3 i.toNat (by omega))
          have hc1 := (zup_n (e := (.inl (xcA θ w (w 4 (w 28 x)), (w 29 x).toNat, xQ (va_up g9 i.toNat (xo σ 30 z))))) (show c ≠ σ 32 (x) from fun e => by rw [e, he9] at hC9; cases hC9)).trans hC9
          have hq1 : ∀ k z2 t : Int, goG (mset w 31 (20 * x + i) z) k z2 t = goG w k z2 t := fun _ _ _ => rfl
          have hh1 : ∀ x9 : Int, 0 ≤ x9 → x9 < (mset w 31 (20 * x + i) z) 27 0 → (mset w 31 (20 * x + i) z) 29 x9 = -1 → (mset w 31 (20 * x + i) z) 1 ((mset w 31 (20 * x + i) z) 28 x9) ≠ 4 := hTh
          have hi1 : ∀ a b : Int, isa (mset w 31 (20 * x + i) z) a b = isa w a b := fun _ _ => rfl
          have f0w : (mset w 31 (20 * x + i) z) 0 0 = w 0 0 := rfl
          have f11w : (mset w 31 (20 * x + i) z) 11 0 = w 11 0 := rfl
          have f27w : (mset w 31 (20 * x + i) z) 27 0 = w 27 0 := rfl
          have f34w : (mset w 31 (20 * x + i) z) 34 0 = w 34 0 := rfl
          have f28w : (mset w 31 (20 * x + i) z) 28 x = w 28 x := rfl
          have f4w : ∀ t : Int, (mset w 31 (20 * x + i) z) 4 t = w 4 t := fun _ => rfl
          have f28v : ∀ t : Int, (mset w 31 (20 * x + i) z) 28 t = w 28 t := fun _ => rfl
          obtain ⟨w9, ew9⟩ : ∃ z9 : mW, (mset w 31 (20 * x + i) z) = z9 := ⟨_, rfl⟩
          rw [ew9] at hX1 hs1 hw1 he1 f0w f11w f27w f34w f28w; simp only [ew9] at hq1 hh1 hi1 f4w f28v
          obtain ⟨M2, eM2⟩ : ∃ z9 : zMap, zup M (σ 32 (x)) (.inl (xcA θ w (w 4 (w 28 x)), (w 29 x).toNat, xQ (va_up g9 i.toNat (xo σ 30 z)))) = z9 := ⟨_, rfl⟩
          rw [eM2]
          rw [eM2] at hX1 he1 hc1
          rw [eM2] at hb1
          have hS1 := hs1.S
          obtain ⟨f28a, f28b⟩ := (hS1.X (show 0 ≤ x by omega) (by omega)).1
          have f4x : w9 4 (w9 28 x) = w 4 (w 28 x) := by rw [f4w, f28w]
          refine z_aload_n C 27 0 dX0_store_26 rfl rfl ?_
          refine z_aload_n C 28 3 dX0_store_27 rfl rfl ?_
          refine z_aload_n C 29 1 dX0_store_28 rfl rfl ?_
          obtain ⟨f10a, f10b, f10c⟩ := hS1.X (show 0 ≤ x by omega) (by omega)
          refine x_pget (v := .ref (σ 10 (w9 28 (x)))) C hκ 32 1 hX1 (by omega) (by omega) (by decide) rfl q1274 (Or.inl rfl) rfl dX0_store_29 rfl ?_
          obtain ⟨f11a, f11b, f11c, f11d, f11e, f11f, f11g, f11h⟩ := hS1.T (show 0 ≤ w9 28 (x) by omega) (by omega)
          obtain ⟨f11i, f11j, f11k, f11l⟩ := hs1.ty (show 0 ≤ w9 28 (x) by omega) (by omega)
          refine xv_of (rest := [.ref (c), .ref (σ 0 (0))]) C hκ hκl hX1 hs1 hw1 hT (w9 28 (x))   ⟨(by omega), (by omega)⟩  35 dX0_store_32 q532 (Nat.le_of_ble_eq_true rfl) (Nat.le_of_ble_eq_true rfl) (Nat.le_of_ble_eq_true rfl) (Nat.le_of_ble_eq_true rfl) (Nat.le_of_ble_eq_true rfl) rfl ?_
          refine z_as (st' := [va_rf (xo σ 10 (w9 4 (w9 28 (x)))), .ref (c), .ref (σ 0 (0))]) rfl rfl rfl ?_
          have y12 : 0 ≤ w9 4 (w9 28 (x)) := (by omega)
          rw [xo_y y12]
          refine z_as (st' := [.ref (σ 10 (w9 4 (w9 28 (x)))), .ref (c), .ref (σ 0 (0))]) (lv' := [(0, .ref (σ 0 (0))), (1, .ref (σ 30 (x))), (2, .int (iI (i))), (3, .ref (c)), (4, .ref (σ 32 (x))), (5, va_rf (xo σ 30 ((fun j : Nat => w 31 (20 * x + j)) i.toNat)))]) rfl rfl rfl ?_
          refine z_callV (As := [.ref (c), .ref (σ 10 (w9 4 (w9 28 (x))))]) (rest := []) C hκ hκl 38 (k0_goesInto hX1 hs1 hw1 hT (c) (8) (b0) (z) (w9 4 (w9 28 (x))) ⟨by omega, by omega⟩ ⟨by omega, by omega⟩ ⟨by omega, by omega⟩ hc1) dX0_store_35 q1582 q1584 qs23 q90 q1585 znX0_goesInto (Nat.le_of_ble_eq_true rfl) (Nat.le_of_ble_eq_true rfl) (Nat.le_of_ble_eq_true rfl) (Nat.le_of_ble_eq_true rfl) (zrec_P hX1.o) rfl rfl (Nat.le_of_ble_eq_true rfl) rfl (fun v9 Q9 h9 => ?_)
          obtain ⟨rfl, rfl⟩ := h9
          refine z_as (st' := [.int (iI (bI (goG w9 (8) (z) (w9 4 (w9 28 (x))))))]) rfl rfl rfl ?_
          refine z_ifB_ne C 55 41 dX0_store_38 (by decide) rfl (fun c13 => ?_) (fun c13 => ?_)
          · skip
            exact z_vret C dX0_store_55 (Nat.le_of_ble_eq_true rfl) (Nat.le_of_ble_eq_true rfl) ⟨rfl, (by unfold soG; rw [if_neg (by omega), if_neg (by omega), if_neg (by omega), if_neg (so_og hs hz htt9b (by rw [← hq1, ← f4x]; clear C hκ hκl XX; simp_all))]), _, xRow_up r1 hin9.1 r3, congrArg (fun M9 => zP θ M9 N) eM2.symm⟩
          · skip
            refine z_aload C 43 4 dX0_store_41 rfl rfl ?_
            refine z_iload_n C 44 2 dX0_store_43 rfl rfl ?_
            refine z_aloadq C 46 5 dX0_store_44 rfl rfl ?_
            have ho9 : -1 ≤ ((fun j : Nat => w 31 (20 * x + j)) i.toNat) ∧ ((fun j : Nat => w 31 (20 * x + j)) i.toNat) < w 27 0 := by have h9 := hV.2.2.2.1 x i (by omega) hx.2 hin9.1 (by omega) h99; have e9 : 20 * x + ((i.toNat : Nat) : Int) = 20 * x + i := (by omega); show -1 ≤ w 31 (20 * x + ((i.toNat : Nat) : Int)) ∧ w 31 (20 * x + ((i.toNat : Nat) : Int)) < w 27 0; rw [e9]; unfold ftB at h9; (repeat rw [if_neg (by omega)] at h9); simp at h9; omega
            refine x_aast (rest := []) C hκ hκl hT hZ hX1 hs1 47 he1 (by omega) (by omega) ⟨ho9.1, by omega⟩ hh1 hin9.1 (by omega) (by omega) dX0_store_46 (Nat.le_of_ble_eq_true rfl) (Nat.le_of_ble_eq_true rfl) (Nat.le_of_ble_eq_true rfl) (Nat.le_of_ble_eq_true rfl) (Nat.le_of_ble_eq_true rfl) rfl ?_ (fun c9 d9 b9 => ?_)
            rotate_left 1
            · exfalso; rw [hi1, f28v, f4x] at d9; have h9 := hIt x i (by omega) hx.2 h99 hin9.1 (by omega) r1; have e9 : 20 * x + ((i.toNat : Nat) : Int) = 20 * x + i := (by omega); simp only [e9] at c9 d9; rw [h9 c9] at d9; cases d9
            rw [show xcA θ w9 (w9 4 (w9 28 x)) = xcA θ w (w 4 (w 28 x)) by rw [← ew9]; rfl, hb1]
            exact zx_throwS (hh := []) C hκ hκl hT hZ XX dX0_store_47 dX0_store_50 dX0_store_51 dX0_store_54 (Nat.le_of_ble_eq_true rfl) (Nat.le_of_ble_eq_true rfl) (Nat.le_of_ble_eq_true rfl) (Nat.le_of_ble_eq_true rfl) (Nat.le_of_ble_eq_true rfl) (fun b9 => ⟨M, 4, rfl, zGe.rf, (by unfold soG; rw [if_neg (by omega), if_neg (by omega), if_neg (by omega), if_pos (so_go hs hz htt9b (by rw [← hq1, ← f4x]; clear C hκ hκl XX; simp_all))]), by decide, Or.inr (Or.inr (Or.inr (Or.inr (Or.inl ⟨rfl, rfl⟩))))⟩)
        · skip
          refine z_castAY C hκ 10 12 he9 (show (zTys θ)[12]? = some (xcA θ w (w 4 (w 28 x)), .object "ReflectMirror$One") by rw [hx9]; rfl) hT.2.2.1 q1573 dX0_store_7 rfl ?_
          refine z_astore (lv' := [(0, .ref (σ 0 (0))), (1, .ref (σ 30 (x))), (2, .int (iI (i))), (3, .ref (c)), (4, .ref (σ 32 (x)))]) C 12 [1, 2, 3, 4, 0] dX0_store_10 (by decide) rfl rfl ?_
          refine z_aload C 14 4 dX0_store_12 rfl rfl ?_
          refine z_iload_n C 15 2 dX0_store_14 rfl rfl ?_
          refine x_ld8 (rest := []) C hκ hκl hT hZ 16 he9 (Or.inr (Or.inr (Or.inr (Or.inr ⟨r1, g9, rfl, r3⟩)))) r1 (by omega) r_i dX0_store_15 (Nat.le_of_ble_eq_true rfl) (Nat.le_of_ble_eq_true rfl) (Nat.le_of_ble_eq_true rfl) (Nat.le_of_ble_eq_true rfl) (Nat.le_of_ble_eq_true rfl) rfl (fun n14 => ?_) (fun E9 c9 b9 hE9 hc9 hz9 => ?_)
          rotate_left 1
          · skip
            refine zx_out C hκ hT XX (fun z9 h9 => by cases h9) ⟨M, c9, rfl, zGe.rf, (so_ld (by omega) h99 r1 hE9 hc9), hc9, Or.inr hz9⟩ (Nat.le_of_ble_eq_true rfl) (Nat.le_of_ble_eq_true rfl)
          have hin9 := (ld_08 n14).2
          refine z_as (st' := [va_rf (xo σ 30 ((fun j : Nat => w 31 (20 * x + j)) i.toNat))]) rfl rfl rfl ?_
          refine z_astoreq (lv' := [(0, .ref (σ 0 (0))), (1, .ref (σ 30 (x))), (2, .int (iI (i))), (3, .ref (c)), (4, .ref (σ 32 (x))), (5, va_rf (xo σ 30 ((fun j : Nat => w 31 (20 * x + j)) i.toNat)))]) C 18 [1, 2, 3, 4, 5, 0] dX0_store_16 (by decide) rfl rfl ?_
          refine z_aload C 20 4 dX0_store_18 rfl rfl ?_
          refine z_iload_n C 21 2 dX0_store_20 rfl rfl ?_
          refine z_aload_n C 22 3 dX0_store_21 rfl rfl ?_
          refine z_getf C hκ (v := va_rf (xo σ 30 (z))) 25 2 zk_X6 hC9 (by decide) q254 (Or.inl rfl) rfl dX0_store_22 rfl ?_
          have htt9b : 8 ≤ w 4 (w 28 x) ∧ w 4 (w 28 x) < w 0 0 := ⟨r1, by omega⟩
          refine x_aast (rest := []) C hκ hκl hT hZ hX hs 26 he9 r1 htt9b.2 hz hTh hin9.1 (by omega) (by omega) dX0_store_25 (Nat.le_of_ble_eq_true rfl) (Nat.le_of_ble_eq_true rfl) (Nat.le_of_ble_eq_true rfl) (Nat.le_of_ble_eq_true rfl) (Nat.le_of_ble_eq_true rfl) rfl ?_ (fun c9 d9 b9 => ?_)
          rotate_left 1
          · skip
            refine zx_out C hκ hT XX (fun z9 h9 => by cases h9) ⟨M, 4, rfl, zGe.rf, (by unfold soG; rw [if_neg (by omega), if_neg (by omega), if_neg (by omega), if_pos ⟨c9, d9⟩]), by decide, Or.inr (Or.inr (Or.inr (Or.inr (Or.inl ⟨rfl, rfl⟩))))⟩ (Nat.le_of_ble_eq_true rfl) (Nat.le_of_ble_eq_true rfl)
          have hX1 := hX.s31 hs (v := z) ⟨(by omega : 0 ≤ x), hx.2⟩ h99 ⟨hin9.1, by omega⟩ (xRow_up (w := w) r1 hin9.1 r3)
          have hs1 := xS_V (sV_31 (a := 20 * x + i) (v := z)) hs
          have hw1 : mWF (mset w 31 (20 * x + i) z) := hw.setL ⟨by omega, by omega⟩ rfl rfl
          have he1 : zup M (σ 32 (x)) (.inl (xcA θ w (w 4 (w 28 x)), (w 29 x).toNat, xQ (va_up g9 i.toNat (xo σ 30 z)))) (σ 32 (x)) = some (.inl (xcA θ (mset w 31 (20 * x + i) z) ((mset w 31 (20 * x + i) z) 4 ((mset w 31 (20 * x + i) z) 28 x)), (w 29 x).toNat, xQ (va_up g9 i.toNat (xo σ 30 z)))) := zup_s
          have hb1 := zup_back (u := xo σ 30 z) he9 (r3 i.toNat (by omega))
          have hc1 := (zup_n (e := (.inl (xcA θ w (w 4 (w 28 x)), (w 29 x).toNat, xQ (va_up g9 i.toNat (xo σ 30 z))))) (show c ≠ σ 32 (x) from fun e => by rw [e, he9] at hC9; cases hC9)).trans hC9
          have hq1 : ∀ k z2 t : Int, goG (mset w 31 (20 * x + i) z) k z2 t = goG w k z2 t := fun _ _ _ => rfl
          have hh1 : ∀ x9 : Int, 0 ≤ x9 → x9 < (mset w 31 (20 * x + i) z) 27 0 → (mset w 31 (20 * x + i) z) 29 x9 = -1 → (mset w 31 (20 * x + i) z) 1 ((mset w 31 (20 * x + i) z) 28 x9) ≠ 4 := hTh
          have hi1 : ∀ a b : Int, isa (mset w 31 (20 * x + i) z) a b = isa w a b := fun _ _ => rfl
          have f0w : (mset w 31 (20 * x + i) z) 0 0 = w 0 0 := rfl
          have f11w : (mset w 31 (20 * x + i) z) 11 0 = w 11 0 := rfl
          have f27w : (mset w 31 (20 * x + i) z) 27 0 = w 27 0 := rfl
          have f34w : (mset w 31 (20 * x + i) z) 34 0 = w 34 0 := rfl
          have f28w : (mset w 31 (20 * x + i) z) 28 x = w 28 x := rfl
          have f4w : ∀ t : Int, (mset w 31 (20 * x + i) z) 4 t = w 4 t := fun _ => rfl
          have f28v : ∀ t : Int, (mset w 31 (20 * x + i) z) 28 t = w 28 t := fun _ => rfl
          obtain ⟨w9, ew9⟩ : ∃ z9 : mW, (mset w 31 (20 * x + i) z) = z9 := ⟨_, rfl⟩
          rw [ew9] at hX1 hs1 hw1 he1 f0w f11w f27w f34w f28w; simp only [ew9] at hq1 hh1 hi1 f4w f28v
          obtain ⟨M3, eM3⟩ : ∃ z9 : zMap, zup M (σ 32 (x)) (.inl (xcA θ w (w 4 (w 28 x)), (w 29 x).toNat, xQ (va_up g9 i.toNat (xo σ 30 z)))) = z9 := ⟨_, rfl⟩
          rw [eM3]
          rw [eM3] at hX1 he1 hc1
          rw [eM3] at hb1
          have hS1 := hs1.S
          obtain ⟨f28a, f28b⟩ := (hS1.X (show 0 ≤ x by omega) (by omega)).1
          have f4x : w9 4 (w9 28 x) = w 4 (w 28 x) := by rw [f4w, f28w]
          refine z_aload_n C 27 0 dX0_store_26 rfl rfl ?_
          refine z_aload_n C 28 3 dX0_store_27 rfl rfl ?_
          refine z_aload_n C 29 1 dX0_store_28 rfl rfl ?_
          obtain ⟨f15a, f15b, f15c⟩ := hS1.X (show 0 ≤ x by omega) (by omega)
          refine x_pget (v := .ref (σ 10 (w9 28 (x)))) C hκ 32 1 hX1 (by omega) (by omega) (by decide) rfl q1274 (Or.inl rfl) rfl dX0_store_29 rfl ?_
          obtain ⟨f16a, f16b, f16c, f16d, f16e, f16f, f16g, f16h⟩ := hS1.T (show 0 ≤ w9 28 (x) by omega) (by omega)
          obtain ⟨f16i, f16j, f16k, f16l⟩ := hs1.ty (show 0 ≤ w9 28 (x) by omega) (by omega)
          refine xv_of (rest := [.ref (c), .ref (σ 0 (0))]) C hκ hκl hX1 hs1 hw1 hT (w9 28 (x))   ⟨(by omega), (by omega)⟩  35 dX0_store_32 q532 (Nat.le_of_ble_eq_true rfl) (Nat.le_of_ble_eq_true rfl) (Nat.le_of_ble_eq_true rfl) (Nat.le_of_ble_eq_true rfl) (Nat.le_of_ble_eq_true rfl) rfl ?_
          refine z_as (st' := [va_rf (xo σ 10 (w9 4 (w9 28 (x)))), .ref (c), .ref (σ 0 (0))]) rfl rfl rfl ?_
          have y17 : 0 ≤ w9 4 (w9 28 (x)) := (by omega)
          rw [xo_y y17]
          refine z_as (st' := [.ref (σ 10 (w9 4 (w9 28 (x)))), .ref (c), .ref (σ 0 (0))]) (lv' := [(0, .ref (σ 0 (0))), (1, .ref (σ 30 (x))), (2, .int (iI (i))), (3, .ref (c)), (4, .ref (σ 32 (x))), (5, va_rf (xo σ 30 ((fun j : Nat => w 31 (20 * x + j)) i.toNat)))]) rfl rfl rfl ?_
          refine z_callV (As := [.ref (c), .ref (σ 10 (w9 4 (w9 28 (x))))]) (rest := []) C hκ hκl 38 (k0_goesInto hX1 hs1 hw1 hT (c) (8) (b0) (z) (w9 4 (w9 28 (x))) ⟨by omega, by omega⟩ ⟨by omega, by omega⟩ ⟨by omega, by omega⟩ hc1) dX0_store_35 q1582 q1584 qs23 q90 q1585 znX0_goesInto (Nat.le_of_ble_eq_true rfl) (Nat.le_of_ble_eq_true rfl) (Nat.le_of_ble_eq_true rfl) (Nat.le_of_ble_eq_true rfl) (zrec_P hX1.o) rfl rfl (Nat.le_of_ble_eq_true rfl) rfl (fun v9 Q9 h9 => ?_)
          obtain ⟨rfl, rfl⟩ := h9
          refine z_as (st' := [.int (iI (bI (goG w9 (8) (z) (w9 4 (w9 28 (x))))))]) rfl rfl rfl ?_
          refine z_ifB_ne C 55 41 dX0_store_38 (by decide) rfl (fun c18 => ?_) (fun c18 => ?_)
          · skip
            exact z_vret C dX0_store_55 (Nat.le_of_ble_eq_true rfl) (Nat.le_of_ble_eq_true rfl) ⟨rfl, (by unfold soG; rw [if_neg (by omega), if_neg (by omega), if_neg (by omega), if_neg (so_og hs hz htt9b (by rw [← hq1, ← f4x]; clear C hκ hκl XX; simp_all))]), _, xRow_up r1 hin9.1 r3, congrArg (fun M9 => zP θ M9 N) eM3.symm⟩
          · skip
            refine z_aload C 43 4 dX0_store_41 rfl rfl ?_
            refine z_iload_n C 44 2 dX0_store_43 rfl rfl ?_
            refine z_aloadq C 46 5 dX0_store_44 rfl rfl ?_
            have ho9 : -1 ≤ ((fun j : Nat => w 31 (20 * x + j)) i.toNat) ∧ ((fun j : Nat => w 31 (20 * x + j)) i.toNat) < w 27 0 := by have h9 := hV.2.2.2.1 x i (by omega) hx.2 hin9.1 (by omega) h99; have e9 : 20 * x + ((i.toNat : Nat) : Int) = 20 * x + i := (by omega); show -1 ≤ w 31 (20 * x + ((i.toNat : Nat) : Int)) ∧ w 31 (20 * x + ((i.toNat : Nat) : Int)) < w 27 0; rw [e9]; unfold ftB at h9; (repeat rw [if_neg (by omega)] at h9); simp at h9; omega
            refine x_aast (rest := []) C hκ hκl hT hZ hX1 hs1 47 he1 (by omega) (by omega) ⟨ho9.1, by omega⟩ hh1 hin9.1 (by omega) (by omega) dX0_store_46 (Nat.le_of_ble_eq_true rfl) (Nat.le_of_ble_eq_true rfl) (Nat.le_of_ble_eq_true rfl) (Nat.le_of_ble_eq_true rfl) (Nat.le_of_ble_eq_true rfl) rfl ?_ (fun c9 d9 b9 => ?_)
            rotate_left 1
            · exfalso; rw [hi1, f28v, f4x] at d9; have h9 := hIt x i (by omega) hx.2 h99 hin9.1 (by omega) r1; have e9 : 20 * x + ((i.toNat : Nat) : Int) = 20 * x + i := (by omega); simp only [e9] at c9 d9; rw [h9 c9] at d9; cases d9
            rw [show xcA θ w9 (w9 4 (w9 28 x)) = xcA θ w (w 4 (w 28 x)) by rw [← ew9]; rfl, hb1]
            exact zx_throwS (hh := []) C hκ hκl hT hZ XX dX0_store_47 dX0_store_50 dX0_store_51 dX0_store_54 (Nat.le_of_ble_eq_true rfl) (Nat.le_of_ble_eq_true rfl) (Nat.le_of_ble_eq_true rfl) (Nat.le_of_ble_eq_true rfl) (Nat.le_of_ble_eq_true rfl) (fun b9 => ⟨M, 4, rfl, zGe.rf, (by unfold soG; rw [if_neg (by omega), if_neg (by omega), if_neg (by omega), if_pos (so_go hs hz htt9b (by rw [← hq1, ← f4x]; clear C hκ hκl XX; simp_all))]), by decide, Or.inr (Or.inr (Or.inr (Or.inr (Or.inl ⟨rfl, rfl⟩))))⟩)
