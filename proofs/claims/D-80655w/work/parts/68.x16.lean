theorem gi_rfl {w : mW} (hs : xS w) {t : Int} (h0 : 0 ≤ t) (h1 : t < w 0 0) : giB w t t = true := by
  by_cases h8 : t < 8
  · unfold giB wdB; rw [if_pos h8]; simp [h8]
  · rw [gi_88 (by omega) (by omega), (hs.1 t h0 h1).2 t h0 h1, xI_law hs (by omega) h1]
    have : t ∈ ancL w t := by rw [ancL_eq hs.BT h0 h1, mem_ancS (by omega)]; exact Or.inl rfl
    rw [decide_eq_true this]; rfl
theorem gu_like {w : mW} (h0 : 0 ≤ w 11 0) {m : Int} (h : guN w m ≠ -1) : w 17 (guN w m) = w 17 m := by
  have key : ∀ u : Int, fnI w u m 2 ≠ -1 → w 17 (fnI w u m 2) = w 17 m := fun u hu => by
    unfold fnI at *
    rw [if_neg (by decide)] at *
    split at hu
    · exact absurd rfl hu
    · rename_i hq; rw [if_neg hq]; exact (likeB_iff.mp (olI_like hu).2.1).1.2.1
  unfold guN at *
  split at h
  · exact absurd rfl h
  · rename_i hq; rw [if_neg hq]; exact key _ h
section BOG
variable {w : mW} {m k x y : Int}
theorem boG_11 (h : k = 0) : boG w m k x y = (xWe w m 11 0 0 0 && (decide ((-1 : Int) = -1) || decide (w 17 m = -1) || giB w (-1) (w 17 m))) := by subst h; simp [boG, bdB, bdC, xWe]
theorem boG_12 (h : k = 1) : boG w m k x y = (ipB w m x && (decide (xpI w m x = -1) || decide (w 17 m = -1) || giB w (xpI w m x) (w 17 m))) := by
  subst h
  by_cases e : ipB w m x = true
  · rw [xpI_y e]; simp [boG, bdB, bdC, e]
  · simp [boG, bdB, e]
theorem fd_f {w : mW} {x : Int} : fdB w x = (decide (0 ≤ xfI w x) && mb w 16 (xfI w x)) := by
  unfold xfI
  by_cases h : mbB w x = true
  · rw [if_pos h]
    have h2 : 0 ≤ x ∧ x < w 11 0 := of_decide_eq_true h
    unfold fdB mb; simp [h2]
  · rw [if_neg h]
    have h2 : ¬ (0 ≤ x ∧ x < w 11 0) := of_decide_eq_false (Bool.eq_false_iff.mpr h)
    unfold fdB; simp; omega
theorem xf_e {w : mW} {x : Int} (h : mbB w x = true) : xfI w x = x := if_pos h
theorem fd_m {w : mW} {x : Int} (h : fdB w x = true) : mbB w x = true := by unfold fdB at h; unfold mbB; simp at *; omega
theorem boG_13 (h : k = 2) : boG w m k x y = ((decide (0 ≤ xfI w x) && (mb w 16 (xfI w x) && reB w m (xfI w x))) && (decide (w 17 (xfI w x) = -1) || decide (w 17 m = -1) || giB w (w 17 (xfI w x)) (w 17 m))) := by
  subst h
  rw [← Bool.and_assoc, ← fd_f]
  by_cases e : fdB w x = true
  · rw [xf_e (fd_m e)]; simp [boG, bdB, bdC, e]
  · simp [boG, bdB, e]
theorem boG_14 (h : k = 3) : boG w m k x y = (xWe w m 14 0 y (xfI w x) && (decide ((-1 : Int) = -1) || decide (w 17 m = -1) || giB w (-1) (w 17 m))) := by
  subst h
  unfold xWe
  simp only [Nat.reduceEqDiff, if_true, if_false]
  rw [show (decide (0 ≤ xfI w x) && (mb w 16 (xfI w x) && reB w m (xfI w x))) = (fdB w x && reB w m (xfI w x)) from by rw [← Bool.and_assoc, ← fd_f]]
  by_cases e : fdB w x = true
  · rw [xf_e (fd_m e)]
    by_cases e2 : ipB w m y = true
    · rw [xpI_y e2]; simp [boG, bdB, bdC, e, e2]
    · simp [boG, bdB, e, e2]
  · simp [boG, bdB, e]
theorem boG_15 (h : k = 4) : boG w m k x y = (xWe w m 15 x 0 0 && (decide ((-1 : Int) = -1) || decide (w 17 m = -1) || giB w (-1) (w 17 m))) := by subst h; simp [boG, bdB, bdC, xWe]
theorem boG_16 (h : k = 5) : boG w m k x y = ((xWl w m (xfI w x) && allN (mcP w m (xfI w x)) (w 18 (xfI w x)).toNat) && (decide (w 17 (xfI w x) = -1) || decide (w 17 m = -1) || giB w (w 17 (xfI w x)) (w 17 m))) := by
  subst h
  by_cases e : mbB w x = true
  · rw [xf_e e]
    have h2 : 0 ≤ x ∧ x < w 11 0 := of_decide_eq_true e
    have e3 : mcF w m x = (xWl w m x && allN (mcP w m x) (w 18 x).toNat) := by
      unfold mcF mcK xWl mtB mb
      congr 1
      by_cases c1 : w 16 x = 1 <;> by_cases c2 : reB w m x = true <;> by_cases c3 : w 18 x ≤ w 18 m <;> simp [c1, c2, c3, h2]
    simp [boG, bdB, bdC, e3]
  · have e2 : xfI w x = -1 := if_neg e
    rw [e2]
    have h2 : ¬ (0 ≤ x ∧ x < w 11 0) := of_decide_eq_false (Bool.eq_false_iff.mpr e)
    have e3 : mcF w m x = false := by
      have : mtB w x = false := by unfold mtB; simp; omega
      unfold mcF mcK; rw [this]; simp
    simp [boG, bdB, e3, xWl]
theorem boG_17 (h : k = 6) : boG w m k x y = (xWe w m 17 x y 0 && (decide (suI (xpI w m x) (xpI w m y) = -1) || decide (w 17 m = -1) || giB w (suI (xpI w m x) (xpI w m y)) (w 17 m))) := by
  subst h
  unfold xWe
  simp only [Nat.reduceEqDiff, if_true, if_false]
  by_cases e : inB w m x = true
  · by_cases e2 : inB w m y = true
    · have a1 : ipB w m x = true := by have := of_decide_eq_true e; unfold ipB; simp; omega
      have a2 : ipB w m y = true := by have := of_decide_eq_true e2; unfold ipB; simp; omega
      rw [xpI_y a1, xpI_y a2]; simp [boG, bdB, bdC, e, e2]
    · simp [boG, bdB, e, e2]
  · simp [boG, bdB, e]
theorem boG_18 (hs : xS w) (hm : 0 ≤ m ∧ m < w 11 0) (h : k = 7) : boG w m k x y = (xWe w m 18 0 0 (guN w m) && (decide (w 17 (guN w m) = -1) || decide (w 17 m = -1) || giB w (w 17 (guN w m)) (w 17 m))) := by
  subst h
  unfold xWe
  simp only [Nat.reduceEqDiff, if_true, if_false]
  by_cases e : guN w m = -1
  · simp [boG, bdB, guB, e]
  · have hr : -1 ≤ guN w m ∧ guN w m < w 11 0 := by
      unfold guN; split
      · have := hs.S.B; unfold mB at this; omega
      · exact fnI_r hs.S.B.2.2.1
    have e1 := gu_like hs.S.B.2.2.1 e
    have h17 := (hs.S.M hm.1 hm.2).2.2.1
    have e2 : (decide (w 17 (guN w m) = -1) || decide (w 17 m = -1) || giB w (w 17 (guN w m)) (w 17 m)) = true := by
      rw [e1]
      by_cases c : w 17 m = -1
      · simp [c]
      · rw [gi_rfl hs (by omega) h17.2]; simp
    rw [e2]
    have e3 : decide (0 ≤ guN w m) = true := decide_eq_true (by omega)
    rw [e3]
    unfold boG bdB bdC guB
    cases hasB w m 4 <;> cases hasB w (guN w m) 4 <;> cases hasB w (guN w m) 16 <;> cases prB w (guN w m) <;> simp [e]
theorem boG_21 (hs : xS w) (hm : 0 ≤ m ∧ m < w 11 0) (h : k = 8) : boG w m k x y = (xWe w m 21 x y 0 && (decide (w 4 (xpI w m x) = -1) || decide (w 17 m = -1) || giB w (w 4 (xpI w m x)) (w 17 m))) := by
  subst h
  unfold xWe
  simp only [Nat.reduceEqDiff, if_true, if_false]
  by_cases e : ipB w m x = true
  · have hx := of_decide_eq_true e
    have tx := (hs.S.M hm.1 hm.2).2.2.2 x hx.1 hx.2
    have e4 : decide (0 ≤ w 4 (w 19 (3 * m + x))) = decide (w 1 (w 19 (3 * m + x)) = 4) := by
      have a := (hs.S.T tx.1 tx.2).2.2.2.1
      have b := (hs.ty tx.1 tx.2).2.2.1
      by_cases c : w 1 (w 19 (3 * m + x)) = 4
      · rw [decide_eq_true c, decide_eq_true (a.2.2 c)]
      · rw [decide_eq_false c, decide_eq_false (by rw [b c]; decide)]
    rw [xpI_y e, e4]
    by_cases e2 : ipB w m y = true
    · rw [xpI_y e2]
      have e5 : giB w (w 19 (3 * m + y)) 4 = (decide (w 19 (3 * m + y) < 8) && wdB (w 19 (3 * m + y)) 4) := by
        unfold giB; split
        · rename_i c; simp [c]
        · rename_i c; simp [c]
      rw [e5]
      unfold boG bdB bdC
      simp [e, e2, Bool.and_assoc]
    · simp [boG, bdB, e, e2]
  · simp [boG, bdB, e]
end BOG
section XMB
variable {θ : zTh} {σ : xA} {w : mW} {M : zMap} {m k x y : Int} {b : Nat}
theorem boV_w {w : mW} {m k x y : Int} {j : Nat} {i : Int} (h : j < 21 ∨ 25 < j) : boV w m k x y j i = w j i := by
  unfold boV
  rw [mset_k (by omega), mset_k (by omega), mset_k (by omega), mset_k (by omega)]
  split
  · rw [mset_k (by omega)]
  · rfl
theorem boV_i {w : mW} {m k x y : Int} {j : Nat} {i : Int} (h : i ≠ m) : boV w m k x y j i = w j i := by
  unfold boV mset
  simp only [h, and_false, if_false]
  split <;> simp [h]
theorem boV_21 : boV w m k x y 21 m = 1 := by unfold boV; rw [mset_k (by decide), mset_k (by decide), mset_k (by decide), mset_s]
theorem boV_22 : boV w m k x y 22 m = k := by unfold boV; rw [mset_k (by decide), mset_k (by decide), mset_s]
theorem boV_23 : boV w m k x y 23 m = x := by unfold boV; rw [mset_k (by decide), mset_s]
theorem boV_24 : boV w m k x y 24 m = y := by unfold boV; rw [mset_s]
theorem boV_25 (h : k = 7) : boV w m k x y 25 m = guN w m := by unfold boV; rw [mset_k (by decide), mset_k (by decide), mset_k (by decide), mset_k (by decide), if_pos h, mset_s]
theorem xBoE_B (hs : xS w) (hm : 0 ≤ m ∧ m < w 11 0) (hk : 0 ≤ k ∧ k ≤ 8) (hG : boG w m k x y = true) : xBody (xUp σ 22 m b) (boV w m k x y) m = xBoE σ w m k x y := by
  have hb : bdB w m k x y = true := by unfold boG at hG; rw [Bool.and_eq_true] at hG; exact hG.1
  have e0 : ∀ z, xUp σ 22 m b 0 z = σ 0 z := fun z => rfl
  have e20 : ∀ z, xUp σ 22 m b 20 z = σ 20 z := fun z => rfl
  unfold xBody
  simp only [boV_22, boV_23, boV_24, e0, e20]
  rcases (show k = 0 ∨ k = 1 ∨ k = 2 ∨ k = 3 ∨ k = 4 ∨ k = 5 ∨ k = 6 ∨ k = 7 ∨ k = 8 by omega) with e | e | e | e | e | e | e | e | e
  · subst e; rfl
  · subst e; rfl
  · have hx : mbB w x = true := by subst e; unfold bdB at hb; simp at hb; exact fd_m hb.1
    rw [xBoE_2 e (xf_y hx)]; subst e; rfl
  · have hx : mbB w x = true := by subst e; unfold bdB at hb; simp at hb; exact fd_m hb.1.1.1
    rw [xBoE_3 e (xf_y hx)]; subst e; rfl
  · subst e; rfl
  · have hx : mbB w x = true := by
      subst e; unfold bdB mcF mcK at hb; simp at hb
      have := hb.1.1.1; unfold mtB at this; unfold mbB; simp at *; omega
    rw [xBoE_5 e (xf_y hx)]; subst e; rfl
  · subst e; rfl
  · have hg : guN w m ≠ -1 := by subst e; unfold bdB guB at hb; simp at hb; exact hb.2.1.1.1
    have hr : -1 ≤ guN w m := by
      unfold guN; split
      · omega
      · exact (fnI_r hs.S.B.2.2.1).1
    rw [xBoE_7 e (xo_y (by omega)), boV_25 e]; subst e; rfl
  · subst e; rfl
theorem xM_body (hs : xS w) (hX : xM θ σ w (xL w) M) (hm : 0 ≤ m ∧ m < w 11 0) (hb : M b = some (xBoE σ w m k x y)) (hfr : xFr σ w (xL w) b) (hk : 0 ≤ k ∧ k ≤ 8) (hG : boG w m k x y = true) (hB : xHasBody w m = true) :
    xM θ (xUp σ 22 m b) (boV w m k x y) (xL (boV w m k x y)) (zup M (σ 20 m) (.inr (9, [.int (iI (m)), .ref (σ 10 (w 13 (m))), .int (iI (w 14 (m))), .int (iI (w 15 (m))), .int (iI (bI (mb w 16 (m)))), va_rf (xo σ 10 (w 17 (m))), .ref (σ 21 (m)), .int (iI (w 18 (m))), .int (iI (bI (mb w 20 (m)))), .int (iI (1)), .ref (b), va_rf (if xHasRow w (m) then some (σ 23 (m)) else none)]))) := by
  have eL : xL (boV w m k x y) = xL w := xL_eq (fun i => boV_w (by decide)) (fun i => boV_w (by decide)) (fun i => boV_w (by decide)) (fun i => boV_w (by decide))
  rw [eL]
  have lv : ∀ (k9 : Nat) (i : Int), xLv (boV w m k x y) (xL w) k9 i ↔ xLv w (xL w) k9 i := fun k9 i => by
    unfold xLv xHasBody xHasRow hasB
    simp only [boV_w (w := w) (m := m) (k := k) (x := x) (y := y) (show (0 : Nat) < 21 ∨ 25 < 0 by decide), boV_w (w := w) (m := m) (k := k) (x := x) (y := y) (show (11 : Nat) < 21 ∨ 25 < 11 by decide), boV_w (w := w) (m := m) (k := k) (x := x) (y := y) (show (27 : Nat) < 21 ∨ 25 < 27 by decide), boV_w (w := w) (m := m) (k := k) (x := x) (y := y) (show (29 : Nat) < 21 ∨ 25 < 29 by decide), boV_w (w := w) (m := m) (k := k) (x := x) (y := y) (show (16 : Nat) < 21 ∨ 25 < 16 by decide), boV_w (w := w) (m := m) (k := k) (x := x) (y := y) (show (15 : Nat) < 21 ∨ 25 < 15 by decide), boV_w (w := w) (m := m) (k := k) (x := x) (y := y) (show (13 : Nat) < 21 ∨ 25 < 13 by decide), boV_w (w := w) (m := m) (k := k) (x := x) (y := y) (show (28 : Nat) < 21 ∨ 25 < 28 by decide)]
  have l20 : xLv w (xL w) 20 m := lvM (Or.inl rfl) hm.1 hm.2
  have hne : b ≠ σ 20 m := fun e => hfr 20 m l20 e.symm
  have s20 : ∀ z, xUp σ 22 m b 20 z = σ 20 z := fun z => rfl
  refine hX.upd (fun k9 i => (k9 = 20 ∧ i = m) ∨ (k9 = 22 ∧ i = m)) (fun k9 i h p => ⟨(lv k9 i).mp h, ?_, ?_, fun e9 h9 => ?_⟩) (fun k9 i h p => ?_) (fun k9 i k' j h p h' e => ?_)
  · exact if_neg (fun z => p (Or.inr z))
  · exact zup_n (fun e => p (Or.inl (hX.1 _ _ _ _ ((lv k9 i).mp h) l20 e)))
  · have w13 : ∀ j : Nat, 13 ≤ j → j ≤ 21 → i ≠ m → boV w m k x y j i = w j i := fun j _ _ hi => boV_i hi
    rcases xLv_k h with rfl | rfl | rfl | rfl | rfl | rfl | rfl | rfl | rfl | rfl | rfl | rfl | rfl | rfl | rfl | rfl | rfl | rfl | rfl | rfl
    case inr.inr.inr.inr.inr.inr.inr.inr.inr.inr.inr.inl =>
      have hi : i ≠ m := fun z => p (Or.inl ⟨rfl, z⟩)
      exact (show e9 = _ from h9).trans (congrArg (fun z9 => (Sum.inr (9, z9) : va_E)) (xMem_eq (σ := σ) (σ' := xUp σ 22 m b) (w := w) (fun j a b' => w13 j a b' hi) (fun _ => rfl) rfl (xUp_i hi) rfl).symm)
    case inr.inr.inr.inr.inr.inr.inr.inr.inr.inr.inr.inr.inr.inl =>
      have hi : i ≠ m := fun z => p (Or.inr ⟨rfl, z⟩)
      exact (show e9 = _ from h9).trans (xBody_eq (σ := σ) (w := w) (fun j _ _ => boV_i hi) (fun _ => rfl) (fun _ => rfl)).symm
    all_goals
      unfold xOk xci xTyG xT8 xRow xcA xci hasB at *
      simp only [boV_w (w := w) (m := m) (k := k) (x := x) (y := y) (show (0 : Nat) < 21 ∨ 25 < 0 by decide), boV_w (w := w) (m := m) (k := k) (x := x) (y := y) (show (1 : Nat) < 21 ∨ 25 < 1 by decide), boV_w (w := w) (m := m) (k := k) (x := x) (y := y) (show (2 : Nat) < 21 ∨ 25 < 2 by decide), boV_w (w := w) (m := m) (k := k) (x := x) (y := y) (show (3 : Nat) < 21 ∨ 25 < 3 by decide), boV_w (w := w) (m := m) (k := k) (x := x) (y := y) (show (4 : Nat) < 21 ∨ 25 < 4 by decide), boV_w (w := w) (m := m) (k := k) (x := x) (y := y) (show (5 : Nat) < 21 ∨ 25 < 5 by decide), boV_w (w := w) (m := m) (k := k) (x := x) (y := y) (show (6 : Nat) < 21 ∨ 25 < 6 by decide), boV_w (w := w) (m := m) (k := k) (x := x) (y := y) (show (7 : Nat) < 21 ∨ 25 < 7 by decide), boV_w (w := w) (m := m) (k := k) (x := x) (y := y) (show (11 : Nat) < 21 ∨ 25 < 11 by decide), boV_w (w := w) (m := m) (k := k) (x := x) (y := y) (show (12 : Nat) < 21 ∨ 25 < 12 by decide), boV_w (w := w) (m := m) (k := k) (x := x) (y := y) (show (13 : Nat) < 21 ∨ 25 < 13 by decide), boV_w (w := w) (m := m) (k := k) (x := x) (y := y) (show (15 : Nat) < 21 ∨ 25 < 15 by decide), boV_w (w := w) (m := m) (k := k) (x := x) (y := y) (show (16 : Nat) < 21 ∨ 25 < 16 by decide), boV_w (w := w) (m := m) (k := k) (x := x) (y := y) (show (17 : Nat) < 21 ∨ 25 < 17 by decide), boV_w (w := w) (m := m) (k := k) (x := x) (y := y) (show (18 : Nat) < 21 ∨ 25 < 18 by decide), boV_w (w := w) (m := m) (k := k) (x := x) (y := y) (show (19 : Nat) < 21 ∨ 25 < 19 by decide), boV_w (w := w) (m := m) (k := k) (x := x) (y := y) (show (26 : Nat) < 21 ∨ 25 < 26 by decide), boV_w (w := w) (m := m) (k := k) (x := x) (y := y) (show (27 : Nat) < 21 ∨ 25 < 27 by decide), boV_w (w := w) (m := m) (k := k) (x := x) (y := y) (show (28 : Nat) < 21 ∨ 25 < 28 by decide), boV_w (w := w) (m := m) (k := k) (x := x) (y := y) (show (29 : Nat) < 21 ∨ 25 < 29 by decide), boV_w (w := w) (m := m) (k := k) (x := x) (y := y) (show (30 : Nat) < 21 ∨ 25 < 30 by decide), boV_w (w := w) (m := m) (k := k) (x := x) (y := y) (show (31 : Nat) < 21 ∨ 25 < 31 by decide), boV_w (w := w) (m := m) (k := k) (x := x) (y := y) (show (32 : Nat) < 21 ∨ 25 < 32 by decide), boV_w (w := w) (m := m) (k := k) (x := x) (y := y) (show (33 : Nat) < 21 ∨ 25 < 33 by decide), boV_w (w := w) (m := m) (k := k) (x := x) (y := y) (show (34 : Nat) < 21 ∨ 25 < 34 by decide), boV_w (w := w) (m := m) (k := k) (x := x) (y := y) (show (35 : Nat) < 21 ∨ 25 < 35 by decide), boV_w (w := w) (m := m) (k := k) (x := x) (y := y) (show (36 : Nat) < 21 ∨ 25 < 36 by decide), boV_w (w := w) (m := m) (k := k) (x := x) (y := y) (show (37 : Nat) < 21 ∨ 25 < 37 by decide), boV_w (w := w) (m := m) (k := k) (x := x) (y := y) (show (38 : Nat) < 21 ∨ 25 < 38 by decide), boV_w (w := w) (m := m) (k := k) (x := x) (y := y) (show (39 : Nat) < 21 ∨ 25 < 39 by decide)]
      exact h9
  · rcases p with ⟨rfl, rfl⟩ | ⟨rfl, rfl⟩
    · refine ⟨_, zup_s, ?_⟩
      show _ = _
      have hB' : xHasBody (boV w i k x y) i = true := by unfold xHasBody hasB at *; rw [boV_w (by decide), boV_w (by decide)]; exact hB
      have hR' : xHasRow (boV w i k x y) i = xHasRow w i := by unfold xHasRow hasB; rw [boV_w (by decide), boV_w (by decide)]
      unfold xMem mb
      rw [hB', hR', boV_w (by decide), boV_w (by decide), boV_w (by decide), boV_w (by decide), boV_w (by decide), boV_w (by decide), boV_w (by decide), boV_21, if_pos rfl, xUp_s]
      rfl
    · refine ⟨xBoE σ w i k x y, ?_, ?_⟩
      · rw [xUp_s, zup_n hne]; exact hb
      · exact (xBoE_B hs hm hk hG).symm
  · rcases p with ⟨rfl, rfl⟩ | ⟨rfl, rfl⟩
    · by_cases q : k' = 22 ∧ j = i
      · exfalso; obtain ⟨rfl, rfl⟩ := q; rw [xUp_s] at e; exact hne e.symm
      · have e2 : xUp σ 22 i b k' j = σ k' j := if_neg q
        rw [e2] at e; exact hX.1 _ _ _ _ l20 ((lv k' j).mp h') e
    · by_cases q : k' = 22 ∧ j = i
      · exact ⟨q.1.symm, q.2.symm⟩
      · have e2 : xUp σ 22 i b k' j = σ k' j := if_neg q
        rw [xUp_s, e2] at e; exact absurd e.symm (hfr k' j ((lv k' j).mp h'))
end XMB

section XV
variable {κ : zK} {own nm : String} {cc : ByteArray} {nL : Nat} {ret : Option FieldType} {rm : Room} {P : Option Value → (Heap → Prop) → Prop} {n k pc : Nat} {lv : List (Nat × Value)} {st rest : List Value}
variable {θ : zTh} {l : Launch} {σ : xA} {w : mW} {Lf : Int → List Int} {M N : zMap} {index : Nat}
theorem xv_isFit (C : ZC κ own nm cc nL ret rm P) (hκ : κ.1 = θ) (hκl : κ.2.2.1 = l) (hX : xM θ σ w (xL w) M) (hs : xS w) (hw : mWF w) (hT : zTb θ) (b : Nat) (m k9 x y : Int) (hb : M b = some (xBoE σ w m k9 x y)) (hm : 0 ≤ m ∧ m < w 11 0) (hk : 0 ≤ k9 ∧ k9 ≤ 8) (r_x : inR x) (r_y : inR y) (h17 : ∀ f : Int, 0 ≤ f → f < w 11 0 → w 16 f = 1 → 0 ≤ w 17 f) (q : Nat) (d : decode cc pc = .ok (.invokevirtual index, 3)) (hl : Cond.methodLink own index (⟨"ReflectMirror$Body", "isFit", "()Z"⟩ : MethodName) ∈ lw_all) (hf : 251 ≤ rm.frames) (hlo : 2611 ≤ rm.locals) (hce : n ≤ rm.cells) (hsl : k ≤ rm.slots) (hsz : (rest.map fun v => v.category).sum ≤ 8) (hq : pc + 3 = q) (kk : Z κ (zP θ M N) n k q lv (.int (iI (bI (boG w m k9 x y))) :: rest)) : Z κ (zP θ M N) n k pc lv (.ref b :: rest) := by
  have hfx := xfI_r (w := w) (x := x) hs.S.B.2.2.1
  have hgu : -1 ≤ guN w m ∧ guN w m < w 11 0 := by
    unfold guN; split
    · have := hs.S.B; unfold mB at this; omega
    · exact fnI_r hs.S.B.2.2.1
  rcases (show k9 = 0 ∨ k9 = 1 ∨ k9 = 2 ∨ k9 = 3 ∨ k9 = 4 ∨ k9 = 5 ∨ k9 = 6 ∨ k9 = 7 ∨ k9 = 8 by omega) with e | e | e | e | e | e | e | e | e
  · rw [xBoE_0 e] at hb; rw [boG_11 e] at kk
    refine z_callU (owner := RX10) (As := []) (rest := rest) C hκ hκl q (k10_isFit_11 hX hs hw hT b m  hb hm   h17) d hl q1014 q1021 q1013 q104 q1024 rfl ⟨by decide, by decide, rfl⟩ (Nat.le_trans (Nat.le_of_ble_eq_true rfl) hf) (Nat.le_trans (Nat.le_of_ble_eq_true rfl) hlo) hce hsl (zrec_P hb) rfl rfl hsz hq (fun v9 Q9 h9 => ?_)
    obtain ⟨rfl, rfl⟩ := h9
    exact kk
  · rw [xBoE_1 e] at hb; rw [boG_12 e] at kk
    refine z_callU (owner := RX10) (As := []) (rest := rest) C hκ hκl q (k10_isFit_12 hX hs hw hT b m x hb hm  r_x h17) d hl q1014 q1020 q1013 q104 q1024 rfl ⟨by decide, by decide, rfl⟩ (Nat.le_trans (Nat.le_of_ble_eq_true rfl) hf) (Nat.le_trans (Nat.le_of_ble_eq_true rfl) hlo) hce hsl (zrec_P hb) rfl rfl hsz hq (fun v9 Q9 h9 => ?_)
    obtain ⟨rfl, rfl⟩ := h9
    exact kk
  · rw [xBoE_2 e rfl] at hb; rw [boG_13 e] at kk
    refine z_callU (owner := RX10) (As := []) (rest := rest) C hκ hκl q (k10_isFit_13 hX hs hw hT b m (xfI w x) hb hm hfx  h17) d hl q1014 q1022 q1013 q104 q1024 rfl ⟨by decide, by decide, rfl⟩ (Nat.le_trans (Nat.le_of_ble_eq_true rfl) hf) (Nat.le_trans (Nat.le_of_ble_eq_true rfl) hlo) hce hsl (zrec_P hb) rfl rfl hsz hq (fun v9 Q9 h9 => ?_)
    obtain ⟨rfl, rfl⟩ := h9
    exact kk
  · rw [xBoE_3 e rfl] at hb; rw [boG_14 e] at kk
    refine z_callU (owner := RX10) (As := []) (rest := rest) C hκ hκl q (k10_isFit_14 hX hs hw hT b m (xfI w x) y hb hm hfx r_y h17) d hl q1014 q1023 q1013 q104 q1024 rfl ⟨by decide, by decide, rfl⟩ (Nat.le_trans (Nat.le_of_ble_eq_true rfl) hf) (Nat.le_trans (Nat.le_of_ble_eq_true rfl) hlo) hce hsl (zrec_P hb) rfl rfl hsz hq (fun v9 Q9 h9 => ?_)
    obtain ⟨rfl, rfl⟩ := h9
    exact kk
  · rw [xBoE_4 e] at hb; rw [boG_15 e] at kk
    refine z_callU (owner := RX10) (As := []) (rest := rest) C hκ hκl q (k10_isFit_15 hX hs hw hT b m x hb hm  r_x h17) d hl q1014 q1018 q1013 q104 q1024 rfl ⟨by decide, by decide, rfl⟩ (Nat.le_trans (Nat.le_of_ble_eq_true rfl) hf) (Nat.le_trans (Nat.le_of_ble_eq_true rfl) hlo) hce hsl (zrec_P hb) rfl rfl hsz hq (fun v9 Q9 h9 => ?_)
    obtain ⟨rfl, rfl⟩ := h9
    exact kk
  · rw [xBoE_5 e rfl] at hb; rw [boG_16 e] at kk
    refine z_callU (owner := RX10) (As := []) (rest := rest) C hκ hκl q (k10_isFit_16 hX hs hw hT b m (xfI w x) hb hm hfx  h17) d hl q1014 q1017 q1013 q104 q1024 rfl ⟨by decide, by decide, rfl⟩ (Nat.le_trans (Nat.le_of_ble_eq_true rfl) hf) (Nat.le_trans (Nat.le_of_ble_eq_true rfl) hlo) hce hsl (zrec_P hb) rfl rfl hsz hq (fun v9 Q9 h9 => ?_)
    obtain ⟨rfl, rfl⟩ := h9
    exact kk
  · rw [xBoE_6 e] at hb; rw [boG_17 e] at kk
    refine z_callU (owner := RX10) (As := []) (rest := rest) C hκ hκl q (k10_isFit_17 hX hs hw hT b m x y hb hm  r_x r_y h17) d hl q1014 q1016 q1013 q104 q1024 rfl ⟨by decide, by decide, rfl⟩ (Nat.le_trans (Nat.le_of_ble_eq_true rfl) hf) (Nat.le_trans (Nat.le_of_ble_eq_true rfl) hlo) hce hsl (zrec_P hb) rfl rfl hsz hq (fun v9 Q9 h9 => ?_)
    obtain ⟨rfl, rfl⟩ := h9
    exact kk
  · rw [xBoE_7 e rfl] at hb; rw [boG_18 hs hm e] at kk
    refine z_callU (owner := RX10) (As := []) (rest := rest) C hκ hκl q (k10_isFit_18 hX hs hw hT b m (guN w m) hb hm hgu  h17) d hl q1014 q1015 q1013 q104 q1024 rfl ⟨by decide, by decide, rfl⟩ (Nat.le_trans (Nat.le_of_ble_eq_true rfl) hf) (Nat.le_trans (Nat.le_of_ble_eq_true rfl) hlo) hce hsl (zrec_P hb) rfl rfl hsz hq (fun v9 Q9 h9 => ?_)
    obtain ⟨rfl, rfl⟩ := h9
    exact kk
  · rw [xBoE_8 hk.1 (Or.inr (by omega))] at hb; rw [boG_21 hs hm e] at kk
    refine z_callU (owner := RX10) (As := []) (rest := rest) C hκ hκl q (k10_isFit_21 hX hs hw hT b m x y hb hm  r_x r_y h17) d hl q1014 q1019 q1013 q104 q1024 rfl ⟨by decide, by decide, rfl⟩ (Nat.le_trans (Nat.le_of_ble_eq_true rfl) hf) (Nat.le_trans (Nat.le_of_ble_eq_true rfl) hlo) hce hsl (zrec_P hb) rfl rfl hsz hq (fun v9 Q9 h9 => ?_)
    obtain ⟨rfl, rfl⟩ := h9
    exact kk
end XV
set_option maxRecDepth 100000 in
theorem k0_body {l : Launch} {θ : zTh} {σ : xA} {w : mW} {M N : zMap} (hX : xM θ σ w (xL w) M) (hs : xS w) (hw : mWF w) (hT : zTb θ) (m : Int) (k : Int) (x : Int) (y : Int) (r_m : inR m) (r_k : inR k) (r_x : inR x) (r_y : inR y)  (hUq : xUq w) (h17 : ∀ f : Int, 0 ≤ f → f < w 11 0 → w 16 f = 1 → 0 ≤ w 17 f) : ZM θ l yX0_body cX0_body 7 (some .int) ⟨251, 3, 71, 4047⟩ [.ref (σ 0 (0)), .int (iI (m)), .int (iI (k)), .int (iI (x)), .int (iI (y))] (zP θ M N) (xOp θ σ N (boI w m k x y) (boW w m k x y)) := by
  refine z_start (own := RX0) (nm := "body") pnX0 rfl rfl (Nat.le_of_ble_eq_true rfl) ?_
  intro κ hκ hκl C
  change Z κ (zP θ M N) 0 0 0 [(0, .ref (σ 0 (0))), (1, .int (iI (m))), (2, .int (iI (k))), (3, .int (iI (x))), (4, .int (iI (y)))] []
  have hS := hs.S
  have hB := hS.B
  obtain ⟨hB1, hB2, hB3, hB4, hB5, hB6⟩ := hS.B
  have hC := hS.C
  obtain ⟨h81, h82⟩ := hs.r8
  refine z_aload_n C 1 0 dX0_body_0 rfl rfl ?_
  refine z_iload_n C 2 1 dX0_body_1 rfl rfl ?_
  refine z_callV (As := [.int (iI (m))]) (rest := []) C hκ hκl 5 (k0_isMethod hX hs hw hT (m) r_m) dX0_body_2 q791 q793 qs6 q90 q794 znX0_isMethod (Nat.le_of_ble_eq_true rfl) (Nat.le_of_ble_eq_true rfl) (Nat.le_of_ble_eq_true rfl) (Nat.le_of_ble_eq_true rfl) (zrec_P hX.o) rfl rfl (Nat.le_of_ble_eq_true rfl) rfl (fun v9 Q9 h9 => ?_)
  obtain ⟨rfl, rfl⟩ := h9
  refine z_as (st' := [.int (iI (bI (mtB w (m))))]) rfl rfl rfl ?_
  refine z_ifB_eq C 34 8 dX0_body_5 (by decide) rfl (fun c1 => ?_) (fun c1 => ?_)
  · skip
    have c1b : ¬ (0 ≤ (m) ∧ (m) < w 11 0 ∧ w 16 (m) ≠ 1) := of_decide_eq_false c1
    refine z_iconst C 35 dX0_body_34 rfl ?_
    exact z_iret C dX0_body_35 rfl (Nat.le_of_ble_eq_true rfl) (Nat.le_of_ble_eq_true rfl) (by have e9 : boB w m k = false := (by unfold boB; first | (simp_all; done) | (simp_all <;> omega) | grind); unfold boI boW; rw [if_pos (by simp [e9]), if_neg (by simp [e9])]; exact xOp_same hX)
  · skip
    have c1b : (0 ≤ (m) ∧ (m) < w 11 0 ∧ w 16 (m) ≠ 1) := of_decide_eq_true c1
    refine z_iload_n C 9 2 dX0_body_8 rfl rfl ?_
    refine z_i2l C 10 dX0_body_9 r_k rfl ?_
    refine z_lconst (x := 0) C 11 dX0_body_10 rfl rfl ?_
    refine z_ldc2 (z := 8) C 14 dX0_body_11 q799 (by decide) rfl ?_
    refine z_callS (As := [.long (lI (k)), .long (lI (0)), .long (lI (8))]) (rest := []) C hκ hκl 17 (k0_isIn hT (k) (0) (8) (inR_L r_k) ⟨by decide, by decide⟩ ⟨by decide, by decide⟩) dX0_body_14 q378 q379 q90 q380 znX0_isIn (Nat.le_of_ble_eq_true rfl) (Nat.le_of_ble_eq_true rfl) (Nat.le_of_ble_eq_true rfl) (Nat.le_of_ble_eq_true rfl) rfl (Nat.le_of_ble_eq_true rfl) rfl (fun v9 Q9 h9 => ?_)
    obtain ⟨rfl, rfl⟩ := h9
    refine z_as (st' := [.int (iI (bI (decide ((0) ≤ (k) ∧ (k) ≤ (8)))))]) rfl rfl rfl ?_
    refine z_ifB_eq C 34 20 dX0_body_17 (by decide) rfl (fun c2 => ?_) (fun c2 => ?_)
    · skip
      have c2b : ¬ (((0) ≤ (k) ∧ (k) ≤ (8))) := of_decide_eq_false c2
      refine z_iconst C 35 dX0_body_34 rfl ?_
      exact z_iret C dX0_body_35 rfl (Nat.le_of_ble_eq_true rfl) (Nat.le_of_ble_eq_true rfl) (by have e9 : boB w m k = false := (by unfold boB; first | (simp_all; done) | (simp_all <;> omega) | grind); unfold boI boW; rw [if_pos (by simp [e9]), if_neg (by simp [e9])]; exact xOp_same hX)
    · skip
      have c2b : (((0) ≤ (k) ∧ (k) ≤ (8))) := of_decide_eq_true c2
      refine z_aload_n C 21 0 dX0_body_20 rfl rfl ?_
      refine z_getf C hκ (v := .ref (σ 2 (0))) 24 2 zk_X0 hX.o (by decide) q329 (Or.inl rfl) rfl dX0_body_21 rfl ?_
      refine z_iload_n C 25 1 dX0_body_24 rfl rfl ?_
      refine x_aM C hκ 26 hX hs (by omega) (by omega) dX0_body_25 rfl ?_
      obtain ⟨f3a, f3b, f3c, f3d⟩ := hS.M (show 0 ≤ m by omega) (by omega)
      refine z_bipush C 28 dX0_body_26 (by decide) rfl ?_
      refine z_callV (As := [.int (iI (16))]) (rest := []) C hκ hκl 31 (k9_has hX hs hw hT (m) (16) ⟨by decide, by decide⟩ ⟨by omega, by omega⟩) dX0_body_28 q711 q712 q713 q103 q714 znX9_has (Nat.le_of_ble_eq_true rfl) (Nat.le_of_ble_eq_true rfl) (Nat.le_of_ble_eq_true rfl) (Nat.le_of_ble_eq_true rfl) (zrec_P (hX.mem (by omega) (by omega))) rfl rfl (Nat.le_of_ble_eq_true rfl) rfl (fun v9 Q9 h9 => ?_)
      obtain ⟨rfl, rfl⟩ := h9
      refine z_as (st' := [.int (iI (bI (hasB w (m) (16))))]) rfl rfl rfl ?_
      refine z_ifB_eq C 36 34 dX0_body_31 (by decide) rfl (fun c4 => ?_) (fun c4 => ?_)
      · skip
        refine z_aload_n C 37 0 dX0_body_36 rfl rfl ?_
        refine z_getf C hκ (v := .ref (σ 2 (0))) 40 2 zk_X0 hX.o (by decide) q329 (Or.inl rfl) rfl dX0_body_37 rfl ?_
        refine z_iload_n C 41 1 dX0_body_40 rfl rfl ?_
        refine x_aM C hκ 42 hX hs (by omega) (by omega) dX0_body_41 rfl ?_
        refine z_astore (lv' := [(0, .ref (σ 0 (0))), (1, .int (iI (m))), (2, .int (iI (k))), (3, .int (iI (x))), (4, .int (iI (y))), (5, .ref (σ 20 (m)))]) C 44 [1, 2, 3, 4, 5, 0] dX0_body_42 (by decide) rfl rfl ?_
        refine z_aload_n C 45 0 dX0_body_44 rfl rfl ?_
        refine z_aload C 47 5 dX0_body_45 rfl rfl ?_
        refine z_iload_n C 48 2 dX0_body_47 rfl rfl ?_
        refine z_iload_n C 49 3 dX0_body_48 rfl rfl ?_
        refine z_iload C 51 4 dX0_body_49 rfl rfl ?_
        refine z_callV (As := [.ref (σ 20 (m)), .int (iI (k)), .int (iI (x)), .int (iI (y))]) (rest := []) C hκ hκl 54 (k0_bodyOf hX hs hw hT (m) (k) (x) (y) r_k r_x r_y ⟨by omega, by omega⟩ ⟨by omega, by omega⟩ hUq) dX0_body_51 q800 q802 qs8 q90 q803 znX0_bodyOf (Nat.le_of_ble_eq_true rfl) (Nat.le_of_ble_eq_true rfl) (Nat.le_of_ble_eq_true rfl) (Nat.le_of_ble_eq_true rfl) (zrec_P hX.o) rfl rfl (Nat.le_of_ble_eq_true rfl) rfl (fun v9 Q9 h9 => ?_)
        obtain ⟨Mr5, br5, rfl, rfl, ger5, nor5, obr5⟩ := h9
        have hX6 : xM θ σ w (xL w) Mr5 := hX.ge ger5
        refine z_as (Pic' := zP θ Mr5 N) (st' := [.ref (br5)]) rfl rfl rfl ?_
        refine z_widen (n' := 3) (k' := 71) (Nat.le_refl _) (Nat.le_refl _) ?_
        refine z_astore (lv' := [(0, .ref (σ 0 (0))), (1, .int (iI (m))), (2, .int (iI (k))), (3, .int (iI (x))), (4, .int (iI (y))), (5, .ref (σ 20 (m))), (6, .ref (br5))]) C 56 [1, 2, 3, 4, 5, 6, 0] dX0_body_54 (by decide) rfl rfl ?_
        refine z_aload C 58 6 dX0_body_56 rfl rfl ?_
        refine xv_isFit (rest := []) C hκ hκl hX6 hs hw hT br5 m k x y obr5 ⟨by omega, by omega⟩ ⟨by omega, by omega⟩ r_x r_y h17 61 dX0_body_58 q1012 (Nat.le_of_ble_eq_true rfl) (Nat.le_of_ble_eq_true rfl) (Nat.le_of_ble_eq_true rfl) (Nat.le_of_ble_eq_true rfl) (Nat.le_of_ble_eq_true rfl) rfl ?_
        refine z_as (st' := [.int (iI (bI (boG w m k x y)))]) rfl rfl rfl ?_
        refine z_ifB_ne C 66 64 dX0_body_61 (by decide) rfl (fun c7 => ?_) (fun c7 => ?_)
        · skip
          have hHB : xHasBody w m = true := by unfold xHasBody; simp_all [mtB]
          refine z_aload C 68 5 dX0_body_66 rfl rfl ?_
          refine z_getf C hκ (v := .int (iI (bI (mb w 21 (m))))) 71 9 zk_X9 (hX6.mem (by omega) (by omega)) (by decide) q682 (Or.inl rfl) rfl dX0_body_68 rfl ?_
          refine z_ifB_eq C 77 74 dX0_body_71 (by decide) rfl (fun c8 => ?_) (fun c8 => ?_)
          · skip
            have c8b : ¬ (w 21 (m) = 1) := of_decide_eq_false c8
            refine z_aload C 79 5 dX0_body_77 rfl rfl ?_
            refine z_iconst C 80 dX0_body_79 rfl ?_
            refine z_putf (fs' := [.int (iI (m)), .ref (σ 10 (w 13 (m))), .int (iI (w 14 (m))), .int (iI (w 15 (m))), .int (iI (bI (mb w 16 (m)))), va_rf (xo σ 10 (w 17 (m))), .ref (σ 21 (m)), .int (iI (w 18 (m))), .int (iI (bI (mb w 20 (m)))), .int (iI (1)), va_rf (if xHasBody w (m) then some (σ 22 (m)) else none), va_rf (if xHasRow w (m) then some (σ 23 (m)) else none)]) C hκ 83 9 zk_X9 (hX6.mem (by omega) (by omega)) (by decide) q682 (Or.inl rfl) rfl (by decide) rfl (Nat.le_of_ble_eq_true rfl) rfl dX0_body_80 rfl ?_
            obtain ⟨M1, eM1⟩ : ∃ z9 : zMap, zup Mr5 (σ 20 (m)) (.inr (9, [.int (iI (m)), .ref (σ 10 (w 13 (m))), .int (iI (w 14 (m))), .int (iI (w 15 (m))), .int (iI (bI (mb w 16 (m)))), va_rf (xo σ 10 (w 17 (m))), .ref (σ 21 (m)), .int (iI (w 18 (m))), .int (iI (bI (mb w 20 (m)))), .int (iI (1)), va_rf (if xHasBody w (m) then some (σ 22 (m)) else none), va_rf (if xHasRow w (m) then some (σ 23 (m)) else none)]) : va_E) = z9 := ⟨_, rfl⟩
            rw [eM1]
            have o9 : M1 (σ 20 (m)) = some (.inr (9, [.int (iI (m)), .ref (σ 10 (w 13 (m))), .int (iI (w 14 (m))), .int (iI (w 15 (m))), .int (iI (bI (mb w 16 (m)))), va_rf (xo σ 10 (w 17 (m))), .ref (σ 21 (m)), .int (iI (w 18 (m))), .int (iI (bI (mb w 20 (m)))), .int (iI (1)), va_rf (if xHasBody w (m) then some (σ 22 (m)) else none), va_rf (if xHasRow w (m) then some (σ 23 (m)) else none)])) := eM1 ▸ zup_s
            refine z_aload C 85 5 dX0_body_83 rfl rfl ?_
            refine z_aload C 87 6 dX0_body_85 rfl rfl ?_
            refine z_putf (fs' := [.int (iI (m)), .ref (σ 10 (w 13 (m))), .int (iI (w 14 (m))), .int (iI (w 15 (m))), .int (iI (bI (mb w 16 (m)))), va_rf (xo σ 10 (w 17 (m))), .ref (σ 21 (m)), .int (iI (w 18 (m))), .int (iI (bI (mb w 20 (m)))), .int (iI (1)), .ref (br5), va_rf (if xHasRow w (m) then some (σ 23 (m)) else none)]) C hκ 90 10 zk_X9 o9 (by decide) q683 (Or.inl rfl) rfl rfl rfl (Nat.le_of_ble_eq_true rfl) rfl dX0_body_87 rfl ?_
            obtain ⟨M2, eM2⟩ : ∃ z9 : zMap, zup M1 (σ 20 (m)) (.inr (9, [.int (iI (m)), .ref (σ 10 (w 13 (m))), .int (iI (w 14 (m))), .int (iI (w 15 (m))), .int (iI (bI (mb w 16 (m)))), va_rf (xo σ 10 (w 17 (m))), .ref (σ 21 (m)), .int (iI (w 18 (m))), .int (iI (bI (mb w 20 (m)))), .int (iI (1)), .ref (br5), va_rf (if xHasRow w (m) then some (σ 23 (m)) else none)]) : va_E) = z9 := ⟨_, rfl⟩
            rw [eM2]
            have o10 : M2 (σ 20 (m)) = some (.inr (9, [.int (iI (m)), .ref (σ 10 (w 13 (m))), .int (iI (w 14 (m))), .int (iI (w 15 (m))), .int (iI (bI (mb w 16 (m)))), va_rf (xo σ 10 (w 17 (m))), .ref (σ 21 (m)), .int (iI (w 18 (m))), .int (iI (bI (mb w 20 (m)))), .int (iI (1)), .ref (br5), va_rf (if xHasRow w (m) then some (σ 23 (m)) else none)])) := eM2 ▸ zup_s
            have hX2 : xM θ (xUp σ 22 m br5) (boV w m k x y) (xL (boV w m k x y)) M2 := by
              rw [← eM2, ← eM1, zup_up]
              exact xM_body hs hX6 ⟨by omega, by omega⟩ obr5 (hX.fr nor5) ⟨by omega, by omega⟩ (by assumption) hHB
            refine z_iconst C 91 dX0_body_90 rfl ?_
            exact z_iret C dX0_body_91 rfl (Nat.le_of_ble_eq_true rfl) (Nat.le_of_ble_eq_true rfl) (by have e9 : boB w m k = true := (by unfold boB; first | (simp_all; done) | (simp_all <;> omega) | grind); unfold boI boW; rw [if_neg (by simp [e9]), if_neg (by simp_all), if_neg (by simp_all), if_pos (by simp_all)]; exact ⟨rfl, M2, xUp σ 22 m br5, rfl, rfl, hX2⟩)
          · skip
            have c8b : (w 21 (m) = 1) := of_decide_eq_true c8
            refine z_bipush C 76 dX0_body_74 (by decide) rfl ?_
            exact z_iret C dX0_body_76 rfl (Nat.le_of_ble_eq_true rfl) (Nat.le_of_ble_eq_true rfl) (by have e9 : boB w m k = true := (by unfold boB; first | (simp_all; done) | (simp_all <;> omega) | grind); unfold boI boW; rw [if_neg (by simp [e9]), if_neg (by simp_all), if_pos (by simp_all), if_neg (by simp_all)]; exact xOp_same hX6)
        · skip
          refine z_iconst C 65 dX0_body_64 rfl ?_
          exact z_iret C dX0_body_65 rfl (Nat.le_of_ble_eq_true rfl) (Nat.le_of_ble_eq_true rfl) (by have e9 : boB w m k = true := (by unfold boB; first | (simp_all; done) | (simp_all <;> omega) | grind); unfold boI boW; rw [if_neg (by simp [e9]), if_pos (by simp_all), if_neg (by simp_all)]; exact xOp_same hX6)
      · skip
        refine z_iconst C 35 dX0_body_34 rfl ?_
        exact z_iret C dX0_body_35 rfl (Nat.le_of_ble_eq_true rfl) (Nat.le_of_ble_eq_true rfl) (by have e9 : boB w m k = false := (by unfold boB; first | (simp_all; done) | (simp_all <;> omega) | grind); unfold boI boW; rw [if_pos (by simp [e9]), if_neg (by simp [e9])]; exact xOp_same hX)
