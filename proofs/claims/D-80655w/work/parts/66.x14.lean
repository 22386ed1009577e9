/-! ===== what changes, and what stays ===== -/
theorem xLv_k {w : mW} {Lf : Int → List Int} {k : Nat} {i : Int} (h : xLv w Lf k i) : k = 0 ∨ k = 1 ∨ k = 2 ∨ k = 3 ∨ k = 4 ∨ k = 5 ∨ k = 6 ∨ k = 10 ∨ k = 11 ∨ k = 12 ∨ k = 13 ∨ k = 20 ∨ k = 21 ∨ k = 22 ∨ k = 23 ∨ k = 30 ∨ k = 31 ∨ k = 32 ∨ k = 33 ∨ k = 40 := by
  unfold xLv at h; omega
def xUp (σ : xA) (k : Nat) (i : Int) (a : Nat) : xA := fun k' i' => if k' = k ∧ i' = i then a else σ k' i'
theorem xUp_s {σ : xA} {k : Nat} {i : Int} {a : Nat} : xUp σ k i a k i = a := by simp [xUp]
theorem xUp_k {σ : xA} {k k' : Nat} {i i' : Int} {a : Nat} (h : k' ≠ k) : xUp σ k i a k' i' = σ k' i' := by simp [xUp, h]
theorem xUp_i {σ : xA} {k : Nat} {i i' : Int} {a : Nat} (h : i' ≠ i) : xUp σ k i a k i' = σ k i' := by simp [xUp, h]
theorem xM.upd {θ : zTh} {σ σ' : xA} {w w' : mW} {Lf Lf' : Int → List Int} {M M' : zMap} (hX : xM θ σ w Lf M) (P : Nat → Int → Prop)
    (hk : ∀ (k : Nat) (i : Int), xLv w' Lf' k i → ¬ P k i → xLv w Lf k i ∧ σ' k i = σ k i ∧ M' (σ k i) = M (σ k i) ∧ ∀ e, xOk θ σ w Lf k i e → xOk θ σ' w' Lf' k i e)
    (hP : ∀ (k : Nat) (i : Int), xLv w' Lf' k i → P k i → ∃ e, M' (σ' k i) = some e ∧ xOk θ σ' w' Lf' k i e)
    (hj : ∀ (k : Nat) (i : Int) (k' : Nat) (j : Int), xLv w' Lf' k i → P k i → xLv w' Lf' k' j → σ' k i = σ' k' j → k = k' ∧ i = j) : xM θ σ' w' Lf' M' := by
  refine ⟨fun k i k' j h1 h2 e => ?_, fun k i h => ?_⟩
  · by_cases p1 : P k i
    · exact hj k i k' j h1 p1 h2 e
    · by_cases p2 : P k' j
      · have := hj k' j k i h2 p2 h1 e.symm; exact ⟨this.1.symm, this.2.symm⟩
      · obtain ⟨a1, a2, -⟩ := hk k i h1 p1
        obtain ⟨b1, b2, -⟩ := hk k' j h2 p2
        rw [a2, b2] at e
        exact hX.1 k i k' j a1 b1 e
  · by_cases p : P k i
    · exact hP k i h p
    · obtain ⟨a1, a2, a3, a4⟩ := hk k i h p
      obtain ⟨e, e1, e2⟩ := hX.2 k i a1
      exact ⟨e, by rw [a2, a3]; exact e1, a4 e e2⟩
theorem xM.set1 {θ : zTh} {σ : xA} {w w' : mW} {Lf : Int → List Int} {M : zMap} {k0 : Nat} {i0 : Int} {E : va_E} (hX : xM θ σ w Lf M) (hl : xLv w Lf k0 i0) (hlv : ∀ (k : Nat) (i : Int), xLv w' Lf k i → xLv w Lf k i) (hE : xOk θ σ w' Lf k0 i0 E)
    (hok : ∀ (k : Nat) (i : Int) (e : va_E), xLv w Lf k i → (k ≠ k0 ∨ i ≠ i0) → xOk θ σ w Lf k i e → xOk θ σ w' Lf k i e) : xM θ σ w' Lf (zup M (σ k0 i0) E) := by
  refine hX.upd (fun k i => k = k0 ∧ i = i0) (fun k i h p => ⟨hlv k i h, rfl, zup_n (fun e => p (hX.1 k i k0 i0 (hlv k i h) hl e)), fun e h2 => hok k i e (hlv k i h) (by omega) h2⟩) (fun k i h p => ⟨E, ?_, ?_⟩) (fun k i k' j h p h2 e => hX.1 k i k' j (hlv k i h) (hlv k' j h2) e)
  · rw [p.1, p.2]; exact zup_s
  · rw [p.1, p.2]; exact hE
theorem facS_eq {w w' : mW} (h1 : ∀ i, w' 1 i = w 1 i) (h7 : ∀ i, w' 7 i = w 7 i) {r r' : Int → List Int} (hr : ∀ t, r' t = r t) (t : Int) (L : List Int) : ∀ n : Nat, facS w' r' t L n = facS w r t L n
  | 0 => rfl
  | n + 1 => by simp only [facS]; rw [facS_eq h1 h7 hr t L n, h7, hr]; unfold clT; rw [h1]
theorem ancF_eq {w w' : mW} (h1 : ∀ i, w' 1 i = w 1 i) (h2 : ∀ i, w' 2 i = w 2 i) (h6 : ∀ i, w' 6 i = w 6 i) (h7 : ∀ i, w' 7 i = w 7 i) : ∀ (n : Nat) (t : Int), ancF w' n t = ancF w n t
  | 0, _ => rfl
  | n + 1, t => by
    have ih := ancF_eq h1 h2 h6 h7 n
    simp only [ancF]
    unfold ancS ancS1 clT
    rw [h6, h1, h2, ih, facS_eq h1 h7 ih]
theorem xL_eq {w w' : mW} (h1 : ∀ i, w' 1 i = w 1 i) (h2 : ∀ i, w' 2 i = w 2 i) (h6 : ∀ i, w' 6 i = w 6 i) (h7 : ∀ i, w' 7 i = w 7 i) : xL w' = xL w := by
  funext t; unfold xL ancL; rw [ancF_eq h1 h2 h6 h7]
/-- an answer, numbers, and the class's objects for them -/
def xOp (θ : zTh) (σ : xA) (N : zMap) (r : Int) (w' : mW) : Option Value → (Heap → Prop) → Prop := fun v9 Q9 => v9 = some (.int (iI r)) ∧ ∃ (M' : zMap) (σ' : xA), Q9 = zP θ M' N ∧ σ' 0 0 = σ 0 0 ∧ xM θ σ' w' (xL w') M'
theorem xOp_same {θ : zTh} {σ : xA} {N : zMap} {r : Int} {w : mW} {M : zMap} (h : xM θ σ w (xL w) M) : xOp θ σ N r w (some (.int (iI r))) (zP θ M N) := ⟨rfl, M, σ, rfl, rfl, h⟩
theorem bI_fit (b : Bool) : fits .boolean (.int (iI (bI b))) = true := by cases b <;> decide
theorem xMem_eq {σ σ' : xA} {w w' : mW} {i : Int} (hw : ∀ k : Nat, 13 ≤ k → k ≤ 21 → w' k i = w k i) (h10 : ∀ t, σ' 10 t = σ 10 t) (h21 : σ' 21 i = σ 21 i) (h22 : σ' 22 i = σ 22 i) (h23 : σ' 23 i = σ 23 i) : xMem σ' w' i = xMem σ w i := by
  unfold xMem xHasBody xHasRow hasB mb xo
  simp only [hw 13 (by decide) (by decide), hw 14 (by decide) (by decide), hw 15 (by decide) (by decide), hw 16 (by decide) (by decide), hw 17 (by decide) (by decide), hw 18 (by decide) (by decide), hw 20 (by decide) (by decide), hw 21 (by decide) (by decide), h10, h21, h22, h23]
theorem xBody_eq {σ σ' : xA} {w w' : mW} {i : Int} (hw : ∀ k : Nat, 22 ≤ k → k ≤ 25 → w' k i = w k i) (h0 : ∀ t, σ' 0 t = σ 0 t) (h20 : ∀ t, σ' 20 t = σ 20 t) : xBody σ' w' i = xBody σ w i := by
  unfold xBody
  simp only [hw 22 (by decide) (by decide), hw 23 (by decide) (by decide), hw 24 (by decide) (by decide), hw 25 (by decide) (by decide), h0, h20]

set_option maxRecDepth 100000 in
theorem k0_open {l : Launch} {θ : zTh} {σ : xA} {w : mW} {M N : zMap} (hX : xM θ σ w (xL w) M) (hs : xS w) (hw : mWF w) (hT : zTb θ) (m : Int) (b : Bool) (r_m : inR m)  : ZM θ l yX0_open cX0_open 4 (some .int) ⟨2, 0, 0, 46⟩ [.ref (σ 0 (0)), .int (iI (m)), .int (iI (bI (b)))] (zP θ M N) (xOp θ σ N (if mbB w m then bI (mb w 20 m) else -1) (if mbB w m then mset w 20 m (bI b) else w)) := by
  refine z_start (own := RX0) (nm := "open") pnX0 rfl rfl (Nat.le_of_ble_eq_true rfl) ?_
  intro κ hκ hκl C
  change Z κ (zP θ M N) 0 0 0 [(0, .ref (σ 0 (0))), (1, .int (iI (m))), (2, .int (iI (bI (b))))] []
  have hS := hs.S
  have hB := hS.B
  obtain ⟨hB1, hB2, hB3, hB4, hB5, hB6⟩ := hS.B
  have hC := hS.C
  obtain ⟨h81, h82⟩ := hs.r8
  refine z_aload_n C 1 0 dX0_open_0 rfl rfl ?_
  refine z_iload_n C 2 1 dX0_open_1 rfl rfl ?_
  refine z_callV (As := [.int (iI (m))]) (rest := []) C hκ hκl 5 (k0_isMember hX hs hw hT (m) r_m) dX0_open_2 q795 q797 qs7 q90 q798 znX0_isMember (Nat.le_of_ble_eq_true rfl) (Nat.le_of_ble_eq_true rfl) (Nat.le_of_ble_eq_true rfl) (Nat.le_of_ble_eq_true rfl) (zrec_P hX.o) rfl rfl (Nat.le_of_ble_eq_true rfl) rfl (fun v9 Q9 h9 => ?_)
  obtain ⟨rfl, rfl⟩ := h9
  refine z_as (st' := [.int (iI (bI (mbB w (m))))]) rfl rfl rfl ?_
  refine z_ifB_ne C 10 8 dX0_open_5 (by decide) rfl (fun c1 => ?_) (fun c1 => ?_)
  · skip
    have c1b : (0 ≤ (m) ∧ (m) < w 11 0) := of_decide_eq_true c1
    refine z_aload_n C 11 0 dX0_open_10 rfl rfl ?_
    refine z_getf C hκ (v := .ref (σ 2 (0))) 14 2 zk_X0 hX.o (by decide) q329 (Or.inl rfl) rfl dX0_open_11 rfl ?_
    refine z_iload_n C 15 1 dX0_open_14 rfl rfl ?_
    refine x_aM C hκ 16 hX hs (by omega) (by omega) dX0_open_15 rfl ?_
    obtain ⟨f2a, f2b, f2c, f2d⟩ := hS.M (show 0 ≤ m by omega) (by omega)
    refine z_getf C hκ (v := .int (iI (bI (mb w 20 (m))))) 19 8 zk_X9 (hX.mem (by omega) (by omega)) (by decide) q681 (Or.inl rfl) rfl dX0_open_16 rfl ?_
    refine z_ifB_eq C 26 22 dX0_open_19 (by decide) rfl (fun c3 => ?_) (fun c3 => ?_)
    · skip
      have c3b : ¬ (w 20 (m) = 1) := of_decide_eq_false c3
      refine z_iconst C 27 dX0_open_26 rfl ?_
      refine z_istore_n (lv' := [(0, .ref (σ 0 (0))), (1, .int (iI (m))), (2, .int (iI (bI (b)))), (3, .int (iI (0)))]) C 28 [1, 2, 3, 0] dX0_open_27 (by decide) rfl rfl ?_
      refine z_aload_n C 29 0 dX0_open_28 rfl rfl ?_
      refine z_getf C hκ (v := .ref (σ 2 (0))) 32 2 zk_X0 hX.o (by decide) q329 (Or.inl rfl) rfl dX0_open_29 rfl ?_
      refine z_iload_n C 33 1 dX0_open_32 rfl rfl ?_
      refine x_aM C hκ 34 hX hs (by omega) (by omega) dX0_open_33 rfl ?_
      refine z_iload_n C 35 2 dX0_open_34 rfl rfl ?_
      refine z_putf (fs' := [.int (iI (m)), .ref (σ 10 (w 13 (m))), .int (iI (w 14 (m))), .int (iI (w 15 (m))), .int (iI (bI (mb w 16 (m)))), va_rf (xo σ 10 (w 17 (m))), .ref (σ 21 (m)), .int (iI (w 18 (m))), .int (iI (bI (b))), .int (iI (bI (mb w 21 (m)))), va_rf (if xHasBody w (m) then some (σ 22 (m)) else none), va_rf (if xHasRow w (m) then some (σ 23 (m)) else none)]) C hκ 38 8 zk_X9 (hX.mem (by omega) (by omega)) (by decide) q681 (Or.inl rfl) rfl (bI_nar _) (bI_fit _) (Nat.le_of_ble_eq_true rfl) rfl dX0_open_35 rfl ?_
      obtain ⟨M1, eM1⟩ : ∃ z9 : zMap, zup M (σ 20 (m)) (.inr (9, [.int (iI (m)), .ref (σ 10 (w 13 (m))), .int (iI (w 14 (m))), .int (iI (w 15 (m))), .int (iI (bI (mb w 16 (m)))), va_rf (xo σ 10 (w 17 (m))), .ref (σ 21 (m)), .int (iI (w 18 (m))), .int (iI (bI (b))), .int (iI (bI (mb w 21 (m)))), va_rf (if xHasBody w (m) then some (σ 22 (m)) else none), va_rf (if xHasRow w (m) then some (σ 23 (m)) else none)]) : va_E) = z9 := ⟨_, rfl⟩
      rw [eM1]
      have hX2 : xM θ σ (mset w 20 m (bI b)) (xL (mset w 20 m (bI b))) M1 := by
        rw [← eM1, show xL (mset w 20 m (bI b)) = xL (w) from xL_eq (fun _ => rfl) (fun _ => rfl) (fun _ => rfl) (fun _ => rfl)]
        refine xM.set1 (k0 := 20) (i0 := m) hX (lvM (Or.inl rfl) (by omega) (by omega)) (fun k9 i9 h9 => h9) (?_ : _ = _) (fun k9 i9 e9 hl9 hn9 h9 => ?_)
        · unfold xMem; cases b <;> simp [mset, bI, xHasBody, xHasRow, hasB]
        · rcases xLv_k hl9 with rfl | rfl | rfl | rfl | rfl | rfl | rfl | rfl | rfl | rfl | rfl | rfl | rfl | rfl | rfl | rfl | rfl | rfl | rfl | rfl <;> first | exact h9 | (exfalso; omega) | (exfalso; unfold xLv at hl9; omega) | (have h8 : i9 ≠ m := (by omega); exact (show e9 = _ from h9).trans (congrArg (fun z9 => (Sum.inr (9, z9) : va_E)) (xMem_eq (σ := σ) (σ' := σ) (w := w) (fun k9 _ _ => by simp [mset, h8]) (fun _ => rfl) rfl rfl rfl).symm))
      refine z_iload_n C 39 3 dX0_open_38 rfl rfl ?_
      exact z_iret C dX0_open_39 rfl (Nat.le_of_ble_eq_true rfl) (Nat.le_of_ble_eq_true rfl) (by rw [if_pos (by assumption), if_pos (by assumption), show mb w 20 m = false by assumption]; exact ⟨rfl, M1, σ, rfl, rfl, hX2⟩)
    · skip
      have c3b : (w 20 (m) = 1) := of_decide_eq_true c3
      refine z_iconst C 23 dX0_open_22 rfl ?_
      refine z_goto C 27 dX0_open_23 (by decide) ?_
      refine z_istore_n (lv' := [(0, .ref (σ 0 (0))), (1, .int (iI (m))), (2, .int (iI (bI (b)))), (3, .int (iI (1)))]) C 28 [1, 2, 3, 0] dX0_open_27 (by decide) rfl rfl ?_
      refine z_aload_n C 29 0 dX0_open_28 rfl rfl ?_
      refine z_getf C hκ (v := .ref (σ 2 (0))) 32 2 zk_X0 hX.o (by decide) q329 (Or.inl rfl) rfl dX0_open_29 rfl ?_
      refine z_iload_n C 33 1 dX0_open_32 rfl rfl ?_
      refine x_aM C hκ 34 hX hs (by omega) (by omega) dX0_open_33 rfl ?_
      refine z_iload_n C 35 2 dX0_open_34 rfl rfl ?_
      refine z_putf (fs' := [.int (iI (m)), .ref (σ 10 (w 13 (m))), .int (iI (w 14 (m))), .int (iI (w 15 (m))), .int (iI (bI (mb w 16 (m)))), va_rf (xo σ 10 (w 17 (m))), .ref (σ 21 (m)), .int (iI (w 18 (m))), .int (iI (bI (b))), .int (iI (bI (mb w 21 (m)))), va_rf (if xHasBody w (m) then some (σ 22 (m)) else none), va_rf (if xHasRow w (m) then some (σ 23 (m)) else none)]) C hκ 38 8 zk_X9 (hX.mem (by omega) (by omega)) (by decide) q681 (Or.inl rfl) rfl (bI_nar _) (bI_fit _) (Nat.le_of_ble_eq_true rfl) rfl dX0_open_35 rfl ?_
      obtain ⟨M2, eM2⟩ : ∃ z9 : zMap, zup M (σ 20 (m)) (.inr (9, [.int (iI (m)), .ref (σ 10 (w 13 (m))), .int (iI (w 14 (m))), .int (iI (w 15 (m))), .int (iI (bI (mb w 16 (m)))), va_rf (xo σ 10 (w 17 (m))), .ref (σ 21 (m)), .int (iI (w 18 (m))), .int (iI (bI (b))), .int (iI (bI (mb w 21 (m)))), va_rf (if xHasBody w (m) then some (σ 22 (m)) else none), va_rf (if xHasRow w (m) then some (σ 23 (m)) else none)]) : va_E) = z9 := ⟨_, rfl⟩
      rw [eM2]
      have hX2 : xM θ σ (mset w 20 m (bI b)) (xL (mset w 20 m (bI b))) M2 := by
        rw [← eM2, show xL (mset w 20 m (bI b)) = xL (w) from xL_eq (fun _ => rfl) (fun _ => rfl) (fun _ => rfl) (fun _ => rfl)]
        refine xM.set1 (k0 := 20) (i0 := m) hX (lvM (Or.inl rfl) (by omega) (by omega)) (fun k9 i9 h9 => h9) (?_ : _ = _) (fun k9 i9 e9 hl9 hn9 h9 => ?_)
        · unfold xMem; cases b <;> simp [mset, bI, xHasBody, xHasRow, hasB]
        · rcases xLv_k hl9 with rfl | rfl | rfl | rfl | rfl | rfl | rfl | rfl | rfl | rfl | rfl | rfl | rfl | rfl | rfl | rfl | rfl | rfl | rfl | rfl <;> first | exact h9 | (exfalso; omega) | (exfalso; unfold xLv at hl9; omega) | (have h8 : i9 ≠ m := (by omega); exact (show e9 = _ from h9).trans (congrArg (fun z9 => (Sum.inr (9, z9) : va_E)) (xMem_eq (σ := σ) (σ' := σ) (w := w) (fun k9 _ _ => by simp [mset, h8]) (fun _ => rfl) rfl rfl rfl).symm))
      refine z_iload_n C 39 3 dX0_open_38 rfl rfl ?_
      exact z_iret C dX0_open_39 rfl (Nat.le_of_ble_eq_true rfl) (Nat.le_of_ble_eq_true rfl) (by rw [if_pos (by assumption), if_pos (by assumption), show mb w 20 m = true by assumption]; exact ⟨rfl, M2, σ, rfl, rfl, hX2⟩)
  · skip
    have c1b : ¬ (0 ≤ (m) ∧ (m) < w 11 0) := of_decide_eq_false c1
    refine z_iconst C 9 dX0_open_8 rfl ?_
    exact z_iret C dX0_open_9 rfl (Nat.le_of_ble_eq_true rfl) (Nat.le_of_ble_eq_true rfl) (by rw [if_neg (by simp_all), if_neg (by simp_all)]; exact xOp_same hX)
set_option maxRecDepth 100000 in
theorem k0_caller {l : Launch} {θ : zTh} {σ : xA} {w : mW} {M N : zMap} (hX : xM θ σ w (xL w) M) (hs : xS w) (hw : mWF w) (hT : zTb θ) (t : Int) (r_t : inR t)  : ZM θ l yX0_caller cX0_caller 3 (some .int) ⟨2, 0, 0, 46⟩ [.ref (σ 0 (0)), .int (iI (t))] (zP θ M N) (xOp θ σ N (if clrB w t then w 34 0 else -1) (if clrB w t then mset w 34 0 t else w)) := by
  refine z_start (own := RX0) (nm := "caller") pnX0 rfl rfl (Nat.le_of_ble_eq_true rfl) ?_
  intro κ hκ hκl C
  change Z κ (zP θ M N) 0 0 0 [(0, .ref (σ 0 (0))), (1, .int (iI (t)))] []
  have hS := hs.S
  have hB := hS.B
  obtain ⟨hB1, hB2, hB3, hB4, hB5, hB6⟩ := hS.B
  have hC := hS.C
  obtain ⟨h81, h82⟩ := hs.r8
  refine z_aload_n C 1 0 dX0_caller_0 rfl rfl ?_
  refine z_iload_n C 2 1 dX0_caller_1 rfl rfl ?_
  refine z_callV (As := [.int (iI (t))]) (rest := []) C hκ hκl 5 (k0_isType hX hs hw hT (t) r_t) dX0_caller_2 q374 q376 qs1 q90 q377 znX0_isType (Nat.le_of_ble_eq_true rfl) (Nat.le_of_ble_eq_true rfl) (Nat.le_of_ble_eq_true rfl) (Nat.le_of_ble_eq_true rfl) (zrec_P hX.o) rfl rfl (Nat.le_of_ble_eq_true rfl) rfl (fun v9 Q9 h9 => ?_)
  obtain ⟨rfl, rfl⟩ := h9
  refine z_as (st' := [.int (iI (bI (tyB w (t))))]) rfl rfl rfl ?_
  refine z_ifB_eq C 32 8 dX0_caller_5 (by decide) rfl (fun c1 => ?_) (fun c1 => ?_)
  · skip
    have c1b : ¬ (0 ≤ (t) ∧ (t) < w 0 0) := of_decide_eq_false c1
    refine z_iconst C 33 dX0_caller_32 rfl ?_
    exact z_iret C dX0_caller_33 rfl (Nat.le_of_ble_eq_true rfl) (Nat.le_of_ble_eq_true rfl) (by have hcl : clrB w t = false := (by have hq4 := hs.ty (t := t); unfold clrB; simp_all [tyB, rfB] <;> omega); rw [if_neg (by simp [hcl]), if_neg (by simp [hcl])]; exact xOp_same hX)
  · skip
    have c1b : (0 ≤ (t) ∧ (t) < w 0 0) := of_decide_eq_true c1
    refine z_aload_n C 9 0 dX0_caller_8 rfl rfl ?_
    refine z_getf C hκ (v := .ref (σ 1 (0))) 12 0 zk_X0 hX.o (by decide) q325 (Or.inl rfl) rfl dX0_caller_9 rfl ?_
    refine z_iload_n C 13 1 dX0_caller_12 rfl rfl ?_
    refine x_aT C hκ 14 hX hs (by omega) (by omega) dX0_caller_13 rfl ?_
    obtain ⟨f2a, f2b, f2c, f2d, f2e, f2f, f2g, f2h⟩ := hS.T (show 0 ≤ t by omega) (by omega)
    obtain ⟨f2i, f2j, f2k, f2l⟩ := hs.ty (show 0 ≤ t by omega) (by omega)
    refine xv_isReference (rest := []) C hκ hκl hX hs hw hT (t)   ⟨(by omega), (by omega)⟩  17 dX0_caller_14 q542 (Nat.le_of_ble_eq_true rfl) (Nat.le_of_ble_eq_true rfl) (Nat.le_of_ble_eq_true rfl) (Nat.le_of_ble_eq_true rfl) (Nat.le_of_ble_eq_true rfl) rfl ?_
    refine z_as (st' := [.int (iI (bI (rfB w (t))))]) rfl rfl rfl ?_
    refine z_ifB_eq C 32 20 dX0_caller_17 (by decide) rfl (fun c3 => ?_) (fun c3 => ?_)
    · skip
      have c3b : ¬ (8 ≤ (t) ∧ (t) < w 0 0) := of_decide_eq_false c3
      refine z_iconst C 33 dX0_caller_32 rfl ?_
      exact z_iret C dX0_caller_33 rfl (Nat.le_of_ble_eq_true rfl) (Nat.le_of_ble_eq_true rfl) (by have hcl : clrB w t = false := (by have hq4 := hs.ty (t := t); unfold clrB; simp_all [tyB, rfB] <;> omega); rw [if_neg (by simp [hcl]), if_neg (by simp [hcl])]; exact xOp_same hX)
    · skip
      have c3b : (8 ≤ (t) ∧ (t) < w 0 0) := of_decide_eq_true c3
      refine z_aload_n C 21 0 dX0_caller_20 rfl rfl ?_
      refine z_getf C hκ (v := .ref (σ 1 (0))) 24 0 zk_X0 hX.o (by decide) q325 (Or.inl rfl) rfl dX0_caller_21 rfl ?_
      refine z_iload_n C 25 1 dX0_caller_24 rfl rfl ?_
      refine x_aT C hκ 26 hX hs (by omega) (by omega) dX0_caller_25 rfl ?_
      refine xv_of (rest := []) C hκ hκl hX hs hw hT (t)   ⟨(by omega), (by omega)⟩  29 dX0_caller_26 q532 (Nat.le_of_ble_eq_true rfl) (Nat.le_of_ble_eq_true rfl) (Nat.le_of_ble_eq_true rfl) (Nat.le_of_ble_eq_true rfl) (Nat.le_of_ble_eq_true rfl) rfl ?_
      refine z_as (st' := [va_rf (xo σ 10 (w 4 (t)))]) rfl rfl rfl ?_
      rcases Int.lt_or_le (w 4 (t)) 0 with n4 | n4
      · skip
        rw [xo_n n4]
        refine z_as (st' := [.null]) (lv' := [(0, .ref (σ 0 (0))), (1, .int (iI (t)))]) rfl rfl rfl ?_
        refine z_ifnullN C 34 dX0_caller_29 (by decide) ?_
        refine z_aload_n C 35 0 dX0_caller_34 rfl rfl ?_
        refine z_getf C hκ (v := .ref (σ 10 (w 34 0))) 38 8 zk_X0 hX.o (by decide) q335 (Or.inl rfl) rfl dX0_caller_35 rfl ?_
        obtain ⟨f5a, f5b, f5c, f5d, f5e, f5f, f5g, f5h⟩ := hS.T (show 0 ≤ w 34 0 by omega) (by omega)
        obtain ⟨f5i, f5j, f5k, f5l⟩ := hs.ty (show 0 ≤ w 34 0 by omega) (by omega)
        refine xv_number (rest := []) C hκ hκl hX hs hw hT (w 34 0)   ⟨(by omega), (by omega)⟩  41 dX0_caller_38 q396 (Nat.le_of_ble_eq_true rfl) (Nat.le_of_ble_eq_true rfl) (Nat.le_of_ble_eq_true rfl) (Nat.le_of_ble_eq_true rfl) (Nat.le_of_ble_eq_true rfl) rfl ?_
        refine z_as (st' := [.int (iI ((w 34 0)))]) rfl rfl rfl ?_
        refine z_istore_n (lv' := [(0, .ref (σ 0 (0))), (1, .int (iI (t))), (2, .int (iI ((w 34 0))))]) C 42 [1, 2, 0] dX0_caller_41 (by decide) rfl rfl ?_
        refine z_aload_n C 43 0 dX0_caller_42 rfl rfl ?_
        refine z_aload_n C 44 0 dX0_caller_43 rfl rfl ?_
        refine z_getf C hκ (v := .ref (σ 1 (0))) 47 0 zk_X0 hX.o (by decide) q325 (Or.inl rfl) rfl dX0_caller_44 rfl ?_
        refine z_iload_n C 48 1 dX0_caller_47 rfl rfl ?_
        refine x_aT C hκ 49 hX hs (by omega) (by omega) dX0_caller_48 rfl ?_
        refine z_putf (fs' := [.ref (σ 1 (0)), .int (iI (w 0 0)), .ref (σ 2 (0)), .int (iI (w 11 0)), .int (iI (w 12 0)), .ref (σ 3 (0)), .int (iI (w 27 0)), .ref (σ 4 (0)), .ref (σ 10 (t)), .ref (σ 5 (0)), .ref (σ 6 (0)), .int (iI (w 37 0)), .int (iI (w 38 0)), .int (iI (w 39 0))]) C hκ 52 8 zk_X0 hX.o (by decide) q335 (Or.inl rfl) rfl rfl rfl (Nat.le_of_ble_eq_true rfl) rfl dX0_caller_49 rfl ?_
        obtain ⟨M1, eM1⟩ : ∃ z9 : zMap, zup M (σ 0 (0)) (.inr (0, [.ref (σ 1 (0)), .int (iI (w 0 0)), .ref (σ 2 (0)), .int (iI (w 11 0)), .int (iI (w 12 0)), .ref (σ 3 (0)), .int (iI (w 27 0)), .ref (σ 4 (0)), .ref (σ 10 (t)), .ref (σ 5 (0)), .ref (σ 6 (0)), .int (iI (w 37 0)), .int (iI (w 38 0)), .int (iI (w 39 0))]) : va_E) = z9 := ⟨_, rfl⟩
        rw [eM1]
        have hX2 : xM θ σ (mset w 34 0 t) (xL (mset w 34 0 t)) M1 := by
          rw [← eM1, show xL (mset w 34 0 t) = xL (w) from xL_eq (fun _ => rfl) (fun _ => rfl) (fun _ => rfl) (fun _ => rfl)]
          refine xM.set1 (k0 := 0) (i0 := 0) hX (Or.inl ⟨by decide, rfl⟩) (fun k9 i9 h9 => h9) (?_ : _ = _) (fun k9 i9 e9 hl9 hn9 h9 => ?_)
          · rfl
          · rcases xLv_k hl9 with rfl | rfl | rfl | rfl | rfl | rfl | rfl | rfl | rfl | rfl | rfl | rfl | rfl | rfl | rfl | rfl | rfl | rfl | rfl | rfl <;> first | exact h9 | (exfalso; omega) | (exfalso; unfold xLv at hl9; omega) | (skip)
        refine z_iload_n C 53 2 dX0_caller_52 rfl rfl ?_
        exact z_iret C dX0_caller_53 rfl (Nat.le_of_ble_eq_true rfl) (Nat.le_of_ble_eq_true rfl) (by have hq4 := hs.ty (show 0 ≤ t by omega) (by omega); have hcl : clrB w t = true := (by unfold clrB; simp_all [rfB] <;> omega); rw [if_pos hcl, if_pos hcl]; exact ⟨rfl, M1, σ, rfl, rfl, hX2⟩)
      · skip
        rw [xo_y n4]
        refine z_as (st' := [.ref (σ 10 (w 4 (t)))]) (lv' := [(0, .ref (σ 0 (0))), (1, .int (iI (t)))]) rfl rfl rfl ?_
        refine z_ifnull C 32 dX0_caller_29 rfl ?_
        refine z_iconst C 33 dX0_caller_32 rfl ?_
        exact z_iret C dX0_caller_33 rfl (Nat.le_of_ble_eq_true rfl) (Nat.le_of_ble_eq_true rfl) (by have hcl : clrB w t = false := (by have hq4 := hs.ty (t := t); unfold clrB; simp_all [tyB, rfB] <;> omega); rw [if_neg (by simp [hcl]), if_neg (by simp [hcl])]; exact xOp_same hX)
