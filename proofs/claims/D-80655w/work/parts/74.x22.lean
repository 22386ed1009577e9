/-- the main object's fields, with another count of types -/
abbrev xMf (σ : xA) (w : mW) (n : Int) : List Value := [.ref (σ 1 (0)), .int (iI (n)), .ref (σ 2 (0)), .int (iI (w 11 0)), .int (iI (w 12 0)), .ref (σ 3 (0)), .int (iI (w 27 0)), .ref (σ 4 (0)), .ref (σ 10 (w 34 0)), .ref (σ 5 (0)), .ref (σ 6 (0)), .int (iI (w 37 0)), .int (iI (w 38 0)), .int (iI (w 39 0))]
def xS4 (σ : xA) (n : Int) (a fa ab hb : Nat) : xA := xUp (xUp (xUp (xUp σ 10 n a) 11 n fa) 12 n ab) 13 n hb
section PACK
variable {θ : zTh} {σ : xA} {w w1 : mW} {M Mx : zMap} {n t : Int} {a fa ab hb : Nat}
theorem xS4_10 : xS4 σ n a fa ab hb 10 n = a := by unfold xS4; rw [xUp_k (by decide), xUp_k (by decide), xUp_k (by decide), xUp_s]
theorem xS4_11 : xS4 σ n a fa ab hb 11 n = fa := by unfold xS4; rw [xUp_k (by decide), xUp_k (by decide), xUp_s]
theorem xS4_12 : xS4 σ n a fa ab hb 12 n = ab := by unfold xS4; rw [xUp_k (by decide), xUp_s]
theorem xS4_13 : xS4 σ n a fa ab hb 13 n = hb := by unfold xS4; rw [xUp_s]
theorem xS4_o {k : Nat} {i : Int} (h : ¬ (i = n ∧ (k = 10 ∨ k = 11 ∨ k = 12 ∨ k = 13))) : xS4 σ n a fa ab hb k i = σ k i := by
  unfold xS4 xUp
  by_cases hi : i = n
  · rw [if_neg (fun z => h ⟨hi, by omega⟩), if_neg (fun z => h ⟨hi, by omega⟩), if_neg (fun z => h ⟨hi, by omega⟩), if_neg (fun z => h ⟨hi, by omega⟩)]
  · rw [if_neg (fun z => hi z.2), if_neg (fun z => hi z.2), if_neg (fun z => hi z.2), if_neg (fun z => hi z.2)]
theorem newT_pack (hs : xS w) (hX : xM θ σ w (xL w) M) (hn : n = w 0 0) (h60 : n < 60) (c0 : w1 0 0 = n + 1) (wa : ∀ (k : Nat) (i : Int), k ≠ 0 → k ≠ 8 → k ≠ 9 → k ≠ 10 → i ≠ n → ¬ (k = 5 ∧ i = t) → w1 k i = w k i) (wb : ∀ (k : Nat) (i : Int), 7 ≤ k → k ≠ 8 → k ≠ 9 → k ≠ 10 → w1 k i = w k i) (ht : t < n) (h6 : w1 6 n = 0)
    (hfx : ∀ (b : Nat) (e : va_E), M b = some e → (0 ≤ t → b ≠ σ 10 t) → Mx b = some e) (ht10 : 0 ≤ t → Mx (σ 10 t) = some (.inr (xci w1 t, xTyG (xS4 σ n a fa ab hb) w1 t (xL w t).length)))
    (ma : Mx a = some (.inr (xci w1 n, xTyG (xS4 σ n a fa ab hb) w1 n 0))) (mfa : ∃ f, Mx fa = some (.inl (θ.2.1 8, 3, xQ f))) (mab : ∃ f, Mx ab = some (.inl (θ.2.1 8, 60, xQ f))) (mhb : Mx hb = some (metE θ (fun _ => false)))
    (hf : xFr σ w (xL w) a ∧ xFr σ w (xL w) fa ∧ xFr σ w (xL w) ab ∧ xFr σ w (xL w) hb) (hd : a ≠ fa ∧ a ≠ ab ∧ a ≠ hb ∧ fa ≠ ab ∧ fa ≠ hb ∧ ab ≠ hb) :
    ∃ f, Mx (xS4 σ n a fa ab hb 1 0) = some (.inl (θ.2.1 8, 60, xQ f)) ∧ Mx (xS4 σ n a fa ab hb 0 0) = some (.inr (0, xMf (xS4 σ n a fa ab hb) w1 n)) ∧
      xM θ (xS4 σ n a fa ab hb) w1 (lUp (xL w) n []) (zup (zup Mx (xS4 σ n a fa ab hb 1 0) (.inl (θ.2.1 8, 60, xQ (va_up f (n).toNat (some (xS4 σ n a fa ab hb 10 (n))))))) (xS4 σ n a fa ab hb 0 0) (.inr (0, xMf (xS4 σ n a fa ab hb) w1 (n + 1)))) := by
  have hB := hs.S.B
  have hB1 := hB.1
  have hC := hs.S.C
  have o : ∀ (k : Nat) (i : Int), k ≠ 10 → k ≠ 11 → k ≠ 12 → k ≠ 13 → xS4 σ n a fa ab hb k i = σ k i := fun k i a b c d => xS4_o (fun z => by omega)
  have s10 : ∀ z : Int, z ≠ n → xS4 σ n a fa ab hb 10 z = σ 10 z := fun z h => xS4_o (fun q => h q.1)
  have l0 : xLv w (xL w) 0 0 := Or.inl ⟨by decide, rfl⟩
  have l1 : xLv w (xL w) 1 0 := Or.inl ⟨by decide, rfl⟩
  have lt : 0 ≤ t → xLv w (xL w) 10 t := fun h => lvT (Or.inl rfl) h (by omega)
  obtain ⟨e, g1, f, rfl, g3⟩ := hX.g (k := 1) (by decide)
  have g1x := hfx _ _ g1 (fun h => hX.ne l1 (lt h) (by decide))
  have em : ∀ z : Int, xMf (xS4 σ n a fa ab hb) w1 z = [.ref (σ 1 (0)), .int (iI (z)), .ref (σ 2 (0)), .int (iI (w 11 0)), .int (iI (w 12 0)), .ref (σ 3 (0)), .int (iI (w 27 0)), .ref (σ 4 (0)), .ref (σ 10 (w 34 0)), .ref (σ 5 (0)), .ref (σ 6 (0)), .int (iI (w 37 0)), .int (iI (w 38 0)), .int (iI (w 39 0))] := fun z => by
    unfold xMf
    rw [o 1 _ (by decide) (by decide) (by decide) (by decide), o 2 _ (by decide) (by decide) (by decide) (by decide), o 3 _ (by decide) (by decide) (by decide) (by decide), o 4 _ (by decide) (by decide) (by decide) (by decide), o 5 _ (by decide) (by decide) (by decide) (by decide), o 6 _ (by decide) (by decide) (by decide) (by decide), wb 11 _ (by decide) (by decide) (by decide) (by decide), wb 12 _ (by decide) (by decide) (by decide) (by decide), wb 27 _ (by decide) (by decide) (by decide) (by decide), wb 34 _ (by decide) (by decide) (by decide) (by decide), wb 37 _ (by decide) (by decide) (by decide) (by decide), wb 38 _ (by decide) (by decide) (by decide) (by decide), wb 39 _ (by decide) (by decide) (by decide) (by decide), s10 _ (by omega)]
  have n01 : σ 0 0 ≠ σ 1 0 := hX.ne l0 l1 (by decide)
  have ne0 : ∀ b, xFr σ w (xL w) b → b ≠ σ 0 0 ∧ b ≠ σ 1 0 := fun b h => ⟨fun z => h _ _ l0 z.symm, fun z => h _ _ l1 z.symm⟩
  refine ⟨f, ?_, ?_, ?_⟩
  · rw [o 1 _ (by decide) (by decide) (by decide) (by decide)]; exact g1x
  · rw [o 0 _ (by decide) (by decide) (by decide) (by decide), em, hn]
    exact hfx _ _ hX.o (fun h => hX.ne l0 (lt h) (by decide))
  · rw [o 0 _ (by decide) (by decide) (by decide) (by decide), o 1 _ (by decide) (by decide) (by decide) (by decide), em, xS4_10]
    obtain ⟨p1, p2, p3, p4⟩ := hf
    refine xM_newT (t := t) hs hX hn c0 wa wb (fun k i h => xS4_o h) ht h6 zup_s ⟨_, (zup_n n01.symm).trans zup_s, fun j hj => ?_⟩ ?_ ?_ ?_ ?_ (fun h => ?_) (fun b e9 h h0 h1 h2 => ?_) ?_ ?_
    · unfold va_up
      by_cases hjn : (j : Int) = n
      · rw [if_pos (by omega), hjn, xS4_10]
      · rw [if_neg (by omega), s10 _ hjn]; exact g3 j (by omega)
    · rw [xS4_10]; exact (zup_n (ne0 a p1).1).trans ((zup_n (ne0 a p1).2).trans ma)
    · rw [xS4_11]; obtain ⟨f9, h9⟩ := mfa; exact ⟨f9, (zup_n (ne0 fa p2).1).trans ((zup_n (ne0 fa p2).2).trans h9)⟩
    · rw [xS4_12]; obtain ⟨f9, h9⟩ := mab; exact ⟨f9, (zup_n (ne0 ab p3).1).trans ((zup_n (ne0 ab p3).2).trans h9)⟩
    · rw [xS4_13]; exact (zup_n (ne0 hb p4).1).trans ((zup_n (ne0 hb p4).2).trans mhb)
    · exact (zup_n (hX.ne (lt h) l0 (by decide))).trans ((zup_n (hX.ne (lt h) l1 (by decide))).trans (ht10 h))
    · exact (zup_n h0).trans ((zup_n h1).trans (hfx b e9 h h2))
    · rw [xS4_10, xS4_11, xS4_12, xS4_13]; exact ⟨p1, p2, p3, p4⟩
    · rw [xS4_10, xS4_11, xS4_12, xS4_13]; exact hd
end PACK
theorem xL_old {w w1 : mW} {n : Int} (hs : xS w) (hn : n = w 0 0) (h1 : ∀ i : Int, i ≠ n → w1 1 i = w 1 i) (h2 : ∀ i : Int, i ≠ n → w1 2 i = w 2 i) (h6 : ∀ i : Int, i ≠ n → w1 6 i = w 6 i) (h7 : ∀ i, w1 7 i = w 7 i) : ∀ t : Int, 0 ≤ t → t < n → xL w1 t = xL w t := by
  have key : ∀ (f : Nat) (t : Int), 0 ≤ t → t < n → ancF w1 f t = ancF w f t := fun f => by
    induction f with
    | zero => intro t _ _; rfl
    | succ f ih =>
      intro t h0 ht
      obtain ⟨b1, b2, b3, b4, b5⟩ := hs.BT t h0 (by omega)
      simp only [ancF]
      have ecl : clT w1 t = clT w t := by unfold clT; rw [h1 t (by omega)]
      have e1 : ancS1 w1 (ancF w1 f) t = ancS1 w (ancF w f) t := by
        unfold ancS1
        rw [ecl, h2 t (by omega)]
        split
        · rename_i hc
          rw [Bool.and_eq_true] at hc
          have := b2 hc.1 (of_decide_eq_true hc.2)
          rw [ih _ (by omega) (by omega)]
        · rfl
      have e2 : ∀ (L : List Int) (j : Nat), (j : Int) ≤ w 6 t → facS w1 (ancF w1 f) t L j = facS w (ancF w f) t L j := fun L j => by
        induction j with
        | zero => intro _; rfl
        | succ j ihj =>
          intro hj
          have := b4 j (by omega) (by omega)
          simp only [facS]
          rw [ihj (by omega), ecl, h7, ih _ (by omega) (by omega)]
      unfold ancS
      rw [e1, h6 t (by omega), e2 _ _ (by omega)]
  intro t h0 ht
  unfold xL ancL
  rw [key _ t h0 ht]

set_option maxRecDepth 100000 in
theorem k0_addT {l : Launch} {θ : zTh} {M N : zMap} (hT : zTb θ) (n : Int)  {σ : xA} {w : mW} {Lf : Int → List Int} {f : Nat → Option Nat} {fs : List Value} (hs : xS w) (hw : mWF w) (h9 : 9 ≤ n ∧ n < 60) (hn : w 0 0 = n + 1) (h1 : M (σ 1 (0)) = some (.inl (θ.2.1 8, 60, xQ f))) (h0 : M (σ 0 (0)) = some (.inr (0, xMf σ w n))) (hMa : M (σ 10 (n)) = some (.inr (xci w (n), fs))) (hN : xM θ σ w Lf (zup (zup M (σ 1 (0)) (.inl (θ.2.1 8, 60, xQ (va_up f (n).toNat (some (σ 10 (n))))))) (σ 0 (0)) (.inr (0, xMf σ w (n + 1))))) (hno : ∀ x : Int, 0 ≤ x → x < w 27 0 → w 28 x ≠ n) (hLf : ∀ x : Int, 0 ≤ x → x < n → rgL (w 0 0) (Lf x)) (h8L : ∀ x : Int, 8 ≤ x → x < n → 8 ∈ Lf x) (hL : ∀ t : Int, 0 ≤ t → t < w 0 0 → lUp Lf n (clL w Lf n) t = xL w t) : ZM θ l yX0_add cX0_add 2 (some .int) ⟨3, 0, 0, 66⟩ [.ref (σ 0 (0)), .ref (σ 10 (n))] (zP θ M N) (fun v9 Q9 => v9 = some (.int (iI n)) ∧ ∃ M' : zMap, Q9 = zP θ M' N ∧ xM θ σ w (xL w) M') := by
  refine z_start (own := RX0) (nm := "add") pnX0 rfl rfl (Nat.le_of_ble_eq_true rfl) ?_
  intro κ hκ hκl C
  change Z κ (zP θ M N) 0 0 0 [(0, .ref (σ 0 (0))), (1, .ref (σ 10 (n)))] []
  have ne01 : σ 0 (0) ≠ σ 1 (0) := fun e => by rw [e, h1] at h0; cases h0
  refine z_aload_n C 1 0 dX0_add_0 rfl rfl ?_
  refine z_getf C hκ (v := .ref (σ 1 (0))) 4 0 zk_X0 h0 (by decide) q325 (Or.inl rfl) rfl dX0_add_1 rfl ?_
  refine z_aload_n C 5 0 dX0_add_4 rfl rfl ?_
  refine z_getf C hκ (v := .int (iI (n))) 8 1 zk_X0 h0 (by decide) q328 (Or.inl rfl) rfl dX0_add_5 rfl ?_
  refine z_aload_n C 9 1 dX0_add_8 rfl rfl ?_
  refine x_astT (i := n) C hκ hT 10 h1 hMa hs (by omega) (by omega) (by omega) (by omega) (by decide) rfl dX0_add_9 rfl ?_
  obtain ⟨M1, eM1⟩ : ∃ z9 : zMap, zup M (σ 1 (0)) (.inl (θ.2.1 8, 60, xQ (va_up f (n).toNat (some (σ 10 (n))))) : va_E) = z9 := ⟨_, rfl⟩
  rw [eM1]
  have hM0 : M1 (σ 0 (0)) = some (.inr (0, xMf σ w n)) := eM1 ▸ (zup_n ne01).trans h0
  refine z_aload_n C 11 0 dX0_add_10 rfl rfl ?_
  refine z_dup C 12 dX0_add_11 rfl rfl ?_
  refine z_getf C hκ (v := .int (iI (n))) 15 1 zk_X0 hM0 (by decide) q328 (Or.inl rfl) rfl dX0_add_12 rfl ?_
  refine z_iconst C 16 dX0_add_15 rfl ?_
  refine z_iadd C 17 dX0_add_16 rfl ?_
  refine z_putf (fs' := [.ref (σ 1 (0)), .int (iI ((n) + (1))), .ref (σ 2 (0)), .int (iI (w 11 0)), .int (iI (w 12 0)), .ref (σ 3 (0)), .int (iI (w 27 0)), .ref (σ 4 (0)), .ref (σ 10 (w 34 0)), .ref (σ 5 (0)), .ref (σ 6 (0)), .int (iI (w 37 0)), .int (iI (w 38 0)), .int (iI (w 39 0))]) C hκ 20 1 zk_X0 hM0 (by decide) q328 (Or.inl rfl) rfl rfl rfl (Nat.le_of_ble_eq_true rfl) rfl dX0_add_17 rfl ?_
  obtain ⟨M2, eM2⟩ : ∃ z9 : zMap, zup M1 (σ 0 (0)) (.inr (0, [.ref (σ 1 (0)), .int (iI ((n) + (1))), .ref (σ 2 (0)), .int (iI (w 11 0)), .int (iI (w 12 0)), .ref (σ 3 (0)), .int (iI (w 27 0)), .ref (σ 4 (0)), .ref (σ 10 (w 34 0)), .ref (σ 5 (0)), .ref (σ 6 (0)), .int (iI (w 37 0)), .int (iI (w 38 0)), .int (iI (w 39 0))]) : va_E) = z9 := ⟨_, rfl⟩
  rw [eM2]
  have hX2 : xM θ σ w Lf M2 := by rw [← eM2, ← eM1]; exact hN
  have hS := hs.S; have hB := hS.B; obtain ⟨hB1, hB2, hB3, hB4, hB5, hB6⟩ := hS.B
  refine z_aload_n C 21 1 dX0_add_20 rfl rfl ?_
  refine z_aload_n C 22 0 dX0_add_21 rfl rfl ?_
  refine z_getf C hκ (v := .ref (σ 1 (0))) 25 0 zk_X0 hX2.o (by decide) q325 (Or.inl rfl) rfl dX0_add_22 rfl ?_
  refine z_bipush C 27 dX0_add_25 (by decide) rfl ?_
  refine x_aT C hκ 28 hX2 hs (by decide) (by omega) dX0_add_27 rfl ?_
  obtain ⟨f1a, f1b, f1c, f1d, f1e, f1f, f1g, f1h⟩ := hS.T (show 0 ≤ 8 by decide) (by omega)
  obtain ⟨f1i, f1j, f1k, f1l⟩ := hs.ty (show 0 ≤ 8 by decide) (by omega)
  refine xv_climb (rest := []) C hκ hκl hX2 hs hw hT (n) ⟨by omega, by omega⟩ hno hLf h8L 31 dX0_add_28 q266 (Nat.le_of_ble_eq_true rfl) (Nat.le_of_ble_eq_true rfl) (Nat.le_of_ble_eq_true rfl) (Nat.le_of_ble_eq_true rfl) (Nat.le_of_ble_eq_true rfl) rfl (fun Mr2 hXr2 => ?_)
  refine z_aload_n C 32 1 dX0_add_31 rfl rfl ?_
  obtain ⟨f3a, f3b, f3c, f3d, f3e, f3f, f3g, f3h⟩ := hS.T (show 0 ≤ n by omega) (by omega)
  obtain ⟨f3i, f3j, f3k, f3l⟩ := hs.ty (show 0 ≤ n by omega) (by omega)
  refine xv_number (rest := []) C hκ hκl hXr2 hs hw hT (n)   ⟨(by omega), (by omega)⟩  35 dX0_add_32 q396 (Nat.le_of_ble_eq_true rfl) (Nat.le_of_ble_eq_true rfl) (Nat.le_of_ble_eq_true rfl) (Nat.le_of_ble_eq_true rfl) (Nat.le_of_ble_eq_true rfl) rfl ?_
  refine z_as (st' := [.int (iI ((n)))]) rfl rfl rfl ?_
  exact z_iret C dX0_add_35 rfl (Nat.le_of_ble_eq_true rfl) (Nat.le_of_ble_eq_true rfl) ⟨rfl, Mr2, rfl, xM_Lf hs hXr2 (fun t a b => (hL t a b).symm)⟩
