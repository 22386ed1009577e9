/-! ===== what lies in a row may lie there ===== -/
theorem ft_ok {w : mW} {t b : Int} (h0 : 0 ≤ t) (hb : inL b) (h : ftB w t b = true) : xVok t b := by
  unfold ftB at h
  unfold xVok nmOk
  refine ⟨fun e => ?_, fun _ h4 => ?_, hb, fun e => ?_, fun e => ?_⟩
  · rw [if_pos e] at h; simp at h; omega
  · unfold inR
    rcases (show t = 0 ∨ t = 1 ∨ t = 2 ∨ t = 3 ∨ t = 4 by omega) with rfl | rfl | rfl | rfl | rfl <;> simp at h <;> omega
  · subst e; simp at h; exact h
  · subst e; simp at h; exact ⟨⟨h.1.1, h.1.2⟩, h.2⟩
theorem ld_1 {t as : Int} (h0 : 0 ≤ t) (ha : 0 ≤ as ∧ as ≤ 8) : ldE t 1 0 as = if mtlB t as then 0 else 2 := by
  unfold ldE mtlB
  by_cases h8 : t < 8
  · rw [if_pos h8]
    by_cases e : as = 8
    · rw [if_pos (by omega), e]; simp
    · rw [if_neg (by omega), if_neg (by omega)]
      cases hw : wdB t as with
      | true => rw [if_neg (by simp)]; simp; omega
      | false => rw [if_pos ⟨e, rfl⟩]; simp
  · rw [if_neg h8]
    by_cases e : as = 8
    · rw [if_neg (by omega), if_neg (by omega), if_neg (by simp [e]), e]; simp
    · rw [if_pos (by omega)]; simp [e]
theorem gtE_0 {w : mW} {m x as : Int} (h0 : 0 ≤ w 17 m) (ha : 0 ≤ as ∧ as ≤ 8) (h1 : mcB w m x = true) (h2 : agI w m x = 0) : gtE w m x as = ldE (w 17 m) 1 0 as := by
  unfold gtE
  rw [ld_1 h0 ha, h1]
  simp [h2]
theorem gtE_n {w : mW} {m x as : Int} (h1 : mcB w m x = false) : gtE w m x as = 6 := by unfold gtE; simp [h1]
theorem gtE_a {w : mW} {m x as c : Int} (h1 : mcB w m x = true) (h2 : agI w m x = c) (h3 : c ≠ 0) : gtE w m x as = c := by unfold gtE; simp [h1, h2, h3]
/-- the row of a field of a thing, or of all -/
theorem xM.fld {θ : zTh} {σ : xA} {w : mW} {M : zMap} (hX : xM θ σ w (xL w) M) (hs : xS w) (hF : xFd w) {m x : Int} (hm : 0 ≤ m ∧ m < w 11 0) (hfd : w 16 m = 1) (hx : -1 ≤ x ∧ x < w 27 0) (h : agI w m x = 0) : ∃ e, M (rwA σ w m x) = some e ∧ xRow θ σ w (w 17 m) 1 (fun _ => fvL w m x) e := by
  unfold rwA fvL
  unfold agI at h
  cases hst : hasB w m 4 with
  | true =>
    have hr : xHasRow w m = true := by unfold xHasRow; rw [hst]; simp [hfd]
    obtain ⟨e, h1, h2⟩ := hX.2 23 m (Or.inr (Or.inr (Or.inr (Or.inr (Or.inl ⟨rfl, hm.1, hm.2, hr⟩)))))
    exact ⟨e, h1, h2⟩
  | false =>
    rw [hst] at h
    simp only [Bool.false_eq_true, if_false] at h
    split at h
    · omega
    · split at h
      · omega
      · rename_i h1 h2
        have his : isa w (w 28 x) (w 13 m) = true := by simpa using h2
        have x0 : 0 ≤ x := by omega
        have hone := fd_one hs hF hm.1 hm.2 hfd x0 hx.2 hst his
        have hin := fd_in hs hF hm.1 hm.2 hfd x0 hx.2 hst his
        have h100 : w 11 0 ≤ 100 := hs.2.1.B.2.2.2.1
        have e1 : (100 * x + m) / 100 = x := by omega
        have e2 : (100 * x + m) % 100 = m := by omega
        obtain ⟨e, g1, g2⟩ := hX.2 33 (100 * x + m) (Or.inr (Or.inr (Or.inr (Or.inr (Or.inr (Or.inr (Or.inr (Or.inr (Or.inl ⟨rfl, by omega, by omega, by rw [e1]; exact hone, by omega, by rw [e2]; exact hfd, by rw [e2]; exact hst, by rw [e1, e2]; exact hin⟩)))))))))
        refine ⟨e, g1, ?_⟩
        have g3 : xRow θ σ w (w 17 ((100 * x + m) % 100)) 1 (fun _ => w 30 (100 * x + m)) e := g2
        rw [e2] at g3
        exact g3
def iaE (w : mW) (x : Int) : Int := if x < 0 then 1 else if w 29 x = -1 then 2 else 0

set_option maxRecDepth 100000 in
theorem k0_itemsOf {l : Launch} {θ : zTh} {σ : xA} {w : mW} {M N : zMap} (hX : xM θ σ w (xL w) M) (hs : xS w) (hw : mWF w) (hT : zTb θ) (hZ : zTx θ l) (x : Int)  (hx : -1 ≤ x ∧ x < w 27 0) : zMX θ l yX0_itemsOf (ws_ yX0_itemsOf cX0_itemsOf 2 (some (.object "java/lang/Object"))) ⟨9, 1, 8, 10250⟩ [va_rf (xo σ 30 (x))] (zP θ M N) (fun v9 Q9 => v9 = some (.ref (σ 32 (x))) ∧ iaE w x = 0 ∧ Q9 = zP θ M N) (fun E9 b9 Q9 => ∃ c9 : Int, iaE w x = c9 ∧ c9 ≠ 0 ∧ xEz E9 c9 ∧ Q9 = zP θ M N) := by
  refine zx_start (own := RX0) (nm := "itemsOf") pnX0 rfl rfl (by cases (xo σ 30 (x)) <;> exact Nat.le_of_ble_eq_true rfl) ?_
  intro κ hκ hκl C XX
  refine z_as (lv' := [(0, va_rf (xo σ 30 (x)))]) rfl (by cases (xo σ 30 (x)) <;> rfl) rfl ?_
  change Z κ (zP θ M N) 0 0 0 [(0, va_rf (xo σ 30 (x)))] []
  have hS := hs.S
  have hB := hS.B
  obtain ⟨hB1, hB2, hB3, hB4, hB5, hB6⟩ := hS.B
  have hC := hS.C
  obtain ⟨h81, h82⟩ := hs.r8
  refine z_aload_nq C 1 0 dX0_itemsOf_0 rfl rfl ?_
  rcases Int.lt_or_le (x) 0 with n1 | n1
  · skip
    rw [xo_n n1]
    refine z_as (st' := [.null]) (lv' := [(0, .null)]) rfl rfl rfl ?_
    refine zx_getfN (rest := []) C hκ hκl hT hZ 1 zk_X24 (by decide) q1274 (Or.inl rfl) dX0_itemsOf_1 (Nat.le_of_ble_eq_true rfl) (Nat.le_of_ble_eq_true rfl) (Nat.le_of_ble_eq_true rfl) (Nat.le_of_ble_eq_true rfl) (Nat.le_of_ble_eq_true rfl) (fun b9 => ?_)
    refine zx_out C hκ hT XX (fun z9 h9 => by cases h9) ⟨1, (by clear C hκ hκl hS hB hB1 hB2 hB3 hB4 hB5 hB6 hC hw hX hs hT h81 h82; unfold iaE; rw [if_pos (by omega)]), by decide, Or.inl ⟨rfl, rfl⟩, rfl⟩ (Nat.le_of_ble_eq_true rfl) (Nat.le_of_ble_eq_true rfl)
  · skip
    rw [xo_y n1]
    refine z_as (st' := [.ref (σ 30 (x))]) (lv' := [(0, .ref (σ 30 (x)))]) rfl rfl rfl ?_
    obtain ⟨f2a, f2b, f2c⟩ := hS.X (show 0 ≤ x by omega) (by omega)
    refine x_pget (v := .ref (σ 10 (w 28 (x)))) C hκ 4 1 hX (by omega) (by omega) (by decide) rfl q1274 (Or.inl rfl) rfl dX0_itemsOf_1 rfl ?_
    refine z_astore_n (lv' := [(0, .ref (σ 30 (x))), (1, .ref (σ 10 (w 28 (x))))]) C 5 [1, 0] dX0_itemsOf_4 (by decide) rfl rfl ?_
    refine z_aload_n C 6 0 dX0_itemsOf_5 rfl rfl ?_
    refine x_isMany C hκ hT 9 hX (by omega) (by omega) q1674 dX0_itemsOf_6 rfl ?_
    refine z_as (st' := [.int (iI (bI (decide (w 29 (x) ≠ -1))))]) rfl rfl rfl ?_
    refine z_ifB_ne C 20 12 dX0_itemsOf_9 (by decide) rfl (fun c3 => ?_) (fun c3 => ?_)
    · skip
      have c3b : ((w 29 (x) ≠ -1)) := of_decide_eq_true c3
      refine z_aload_n C 21 0 dX0_itemsOf_20 rfl rfl ?_
      have y4 : w 29 (x) ≠ -1 := (by omega)
      refine z_castS C hκ 24 (hX.many (by omega) (by omega) y4) rfl q1674 dX0_itemsOf_21 rfl ?_
      refine z_getf C hκ (v := .ref (σ 32 (x))) 27 3 zk_X27 (hX.many (by omega) (by omega) y4) (by decide) q1882 (Or.inl rfl) rfl dX0_itemsOf_24 rfl ?_
      exact z_aret C dX0_itemsOf_27 (Or.inl ⟨_, rfl⟩) (Or.inr ⟨_, rfl⟩) (Nat.le_of_ble_eq_true rfl) (Nat.le_of_ble_eq_true rfl) ⟨rfl, (by clear C hκ hκl hS hB hB1 hB2 hB3 hB4 hB5 hB6 hC hw hX hs hT h81 h82 f2a f2b f2c; unfold iaE; rw [if_neg (by omega), if_neg (by omega)]), rfl⟩
    · skip
      have c3b : ¬ ((w 29 (x) ≠ -1)) := of_decide_eq_false c3
      exact zx_throwI (hh := []) C hκ hκl hT hZ XX dX0_itemsOf_12 dX0_itemsOf_15 dX0_itemsOf_16 dX0_itemsOf_19 (Nat.le_of_ble_eq_true rfl) (Nat.le_of_ble_eq_true rfl) (Nat.le_of_ble_eq_true rfl) (Nat.le_of_ble_eq_true rfl) (Nat.le_of_ble_eq_true rfl) (fun b9 => ⟨2, (by clear C hκ hκl hS hB hB1 hB2 hB3 hB4 hB5 hB6 hC hw hX hs hT h81 h82 f2a f2b f2c; unfold iaE; rw [if_neg (by omega), if_pos (by omega)]), by decide, Or.inr (Or.inl ⟨rfl, rfl⟩), rfl⟩)
