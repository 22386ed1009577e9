/-! ===== the Model: values that are got, set, copied ===== -/
/-- what is kept of values: each fits its type -/
def mV (w : mW) : Prop := (∀ s, 0 ≤ s → s < 8 → ftB w (w 32 s) (w 33 s) = true) ∧ (∀ m, 0 ≤ m → m < w 11 0 → w 16 m = 1 → ftB w (w 17 m) (w 26 m) = true) ∧ (∀ x m, 0 ≤ x → x < w 27 0 → 0 ≤ m → m < w 11 0 → w 16 m = 1 → ftB w (w 17 m) (w 30 (100 * x + m)) = true) ∧ (∀ x k, 0 ≤ x → x < w 27 0 → 0 ≤ k → k < 20 → w 29 x ≠ -1 → ftB w (w 4 (w 28 x)) (w 31 (20 * x + k)) = true) ∧ (∀ m, 0 ≤ m → m < w 11 0 → w 16 m = 1 → 0 ≤ w 17 m)
theorem ft6 {w : mW} {f t b : Int} (h : ftB w f b = true) : f = 6 → 6 ≤ t → inR b ∧ zlandd b 2147483647 ≤ 2139095040 := by
  intro h6 _
  subst h6
  unfold ftB at h
  simp only [show ¬ ((6 : Int) = 0) from by decide, show ¬ ((6 : Int) = 1) from by decide, show ¬ ((6 : Int) = 2) from by decide, show ¬ ((6 : Int) = 3) from by decide, show ¬ ((6 : Int) = 4) from by decide, show ¬ ((6 : Int) = 5) from by decide, if_false, if_true, Bool.and_eq_true, decide_eq_true_eq] at h
  exact ⟨h.1, h.2⟩
theorem ft8 {w : mW} {f b : Int} (h : ftB w f b = true) (h8 : 8 ≤ f) : -1 ≤ b ∧ b < w 27 0 := by
  unfold ftB at h
  rw [if_neg (by omega), if_neg (by omega), if_neg (by omega), if_neg (by omega), if_neg (by omega), if_neg (by omega), if_neg (by omega), if_neg (by omega)] at h
  simp at h; omega
theorem agI_r {w : mW} {m x : Int} : 0 ≤ agI w m x ∧ agI w m x ≤ 2 := by unfold agI; repeat' split <;> omega
theorem agI_0 {w : mW} {m x : Int} (h : agI w m x = 0) : hasB w m 4 = true ∨ (x ≠ -1 ∧ isa w (w 28 x) (w 13 m) = true) := by
  unfold agI at h
  split at h
  · left; assumption
  · split at h
    · omega
    · split at h
      · omega
      · right; constructor; assumption; simp_all
theorem aiI_r {w : mW} {x i : Int} {p : Bool} : 0 ≤ aiI w x i p ∧ aiI w x i p ≤ 3 := by unfold aiI; repeat' split <;> omega
theorem aiI_0 {w : mW} {x i : Int} {p : Bool} (h : aiI w x i p = 0) : x ≠ -1 ∧ w 29 x ≠ -1 ∧ decide (w 4 (w 28 x) < 8) = p ∧ 0 ≤ i ∧ i < w 29 x := by
  unfold aiI at h
  split at h
  · omega
  · split at h
    · omega
    · split at h
      · rename_i h1 h2 h3
        refine ⟨h1, fun h => h2 (Or.inl h), ?_, h3.1, h3.2⟩
        by_cases h4 : decide (w 4 (w 28 x) < 8) = p
        · exact h4
        · exact absurd (Or.inr h4) h2
      · omega
def suI (a b : Int) : Int := if 4 < (if b < a then a else b) then (if b < a then a else b) else 4
def gtE (w : mW) (f x a : Int) : Int := if (if !mcB w f x then 6 else agI w f x) = 0 then (if mtlB (w 17 f) a then 0 else 2) else (if !mcB w f x then 6 else agI w f x)
def gtB (w : mW) (f x a s : Int) : Bool := fdB w f && tnB w x && decide (0 ≤ a ∧ a ≤ 8) && slB s
def gtI (w : mW) (f x a s : Int) : Int := if !gtB w f x a s then -1 else if 0 < gtE w f x a then -10 - gtE w f x a else 1
def gtW (w : mW) (f x a s : Int) : mW := if gtB w f x a s && decide (gtE w f x a = 0) then layW w s a (wdL (fvL w f x) (w 17 f) a) else w
def shB (w : mW) (f : Int) : Bool := hasB w f 8 && (!mb w 20 f || hasB w f 4)
def seE (w : mW) (f x s : Int) : Int := if (if shB w f || !mcB w f x then 6 else agI w f x) = 0 then (if sgB w s (w 17 f) then 0 else 2) else (if shB w f || !mcB w f x then 6 else agI w f x)
def seB (w : mW) (f x s : Int) : Bool := fdB w f && tnB w x && slB s
def seI (w : mW) (f x s : Int) : Int := if !seB w f x s then -1 else if 0 < seE w f x s then -10 - seE w f x s else 1
def seW (w : mW) (f x s : Int) : mW := if seB w f x s && decide (seE w f x s = 0) then sfW w f x (wdL (w 33 s) (w 32 s) (w 17 f)) else w
def itE (w : mW) (x i a : Int) : Int := if aiI w x i (decide (a < 8)) = 0 then (if mtlB (w 4 (w 28 x)) a then 0 else 2) else aiI w x i (decide (a < 8))
def itB (w : mW) (x a s : Int) : Bool := tnB w x && decide (0 ≤ a ∧ a ≤ 8) && slB s
def itI (w : mW) (x i a s : Int) : Int := if !itB w x a s then -1 else if 0 < itE w x i a then -10 - itE w x i a else 1
def itW (w : mW) (x i a s : Int) : mW := if itB w x a s && decide (itE w x i a = 0) then layW w s a (wdL (w 31 (20 * x + i)) (w 4 (w 28 x)) a) else w
def puE (w : mW) (x i s : Int) : Int := if aiI w x i (decide (w 32 s < 8)) = 0 then (if sgB w s (w 4 (w 28 x)) then 0 else 2) else aiI w x i (decide (w 32 s < 8))
def puB (w : mW) (x s : Int) : Bool := tnB w x && slB s
def puI (w : mW) (x i s : Int) : Int := if !puB w x s then -1 else if 0 < puE w x i s then -10 - puE w x i s else 1
def puW (w : mW) (x i s : Int) : mW := if puB w x s && decide (puE w x i s = 0) then mset w 31 (20 * x + i) (wdL (w 33 s) (w 32 s) (w 4 (w 28 x))) else w
def soE (w : mW) (x i s : Int) : Int := if aiI w x i false = 2 then 8 else if aiI w x i false = 0 then (if sgB w s (w 4 (w 28 x)) then 0 else 4) else aiI w x i false
def soB (w : mW) (x s : Int) : Bool := tnB w x && slB s && decide (8 ≤ w 32 s)
def soI (w : mW) (x i s : Int) : Int := if !soB w x s then -1 else if 0 < soE w x i s then -10 - soE w x i s else 1
def soW (w : mW) (x i s : Int) : mW := if soB w x s && decide (soE w x i s = 0) then mset w 31 (20 * x + i) (w 33 s) else w
/-- items that are copied: all are read, then written up to the first one that does not go -/
def mdW (w : mW) (a i : Int) : Nat → mW
  | 0 => w
  | n + 1 => mset (mdW w a i n) 43 n (w 31 (20 * a + i + n))
def ciW (w : mW) (b j : Int) : Nat → mW
  | 0 => w
  | n + 1 => mset (ciW w b j n) 31 (20 * b + j + n) (w 43 n)
theorem mdW_k {w : mW} {a i : Int} {n k : Nat} {t : Int} (h : k ≠ 43) : mdW w a i n k t = w k t := by
  induction n with
  | zero => rfl
  | succ n ih => simp only [mdW]; rw [mset_k h, ih]
theorem ciW_k {w : mW} {b j : Int} {n k : Nat} {t : Int} (h : k ≠ 31) : ciW w b j n k t = w k t := by
  induction n with
  | zero => rfl
  | succ n ih => simp only [ciW]; rw [mset_k h, ih]
theorem mdW_m {w : mW} {a i : Int} : ∀ {n k : Nat}, k < n → mdW w a i n 43 k = w 31 (20 * a + i + k)
  | 0, _, h => absurd h (Nat.not_lt_zero _)
  | n + 1, k, h => by
    simp only [mdW]
    by_cases e : k = n
    · subst e; rw [mset_s]
    · rw [mset_i (by omega)]; exact mdW_m (by omega)
def cpX (w : mW) (a b : Int) (y : Int) : Bool := decide (y < 8)
def cpE (w : mW) (a i b j n : Int) : Int :=
  if a = -1 ∨ b = -1 then -11 else if w 29 a = -1 ∨ w 29 b = -1 then -14
  else if (w 4 (w 28 a) < 8 ∨ w 4 (w 28 b) < 8) ∧ w 4 (w 28 a) ≠ w 4 (w 28 b) then -14
  else if i < 0 ∨ j < 0 ∨ n < 0 ∨ w 29 a < i + n ∨ w 29 b < j + n then -13 else 0
def cpP (w : mW) (a i b : Int) : Nat → Bool := fun k => decide (8 ≤ w 4 (w 28 b)) && decide (0 ≤ w 31 (20 * a + i + k)) && !isa w (w 28 (w 31 (20 * a + i + k))) (w 4 (w 28 b))
def cpK (w : mW) (a i b n : Int) : Nat := firstN (cpP w a i b) n.toNat
def cpI (w : mW) (a i b j n : Int) : Int := if !tnB w a || !tnB w b then -1 else if cpE w a i b j n ≠ 0 then cpE w a i b j n else if cpK w a i b n < n.toNat then -14 else 1
def cpW (w : mW) (a i b j n : Int) : mW := if tnB w a && tnB w b && decide (cpE w a i b j n = 0) then ciW (mdW w a i n.toNat) b j (cpK w a i b n) else w
theorem firstN_none : ∀ {n : Nat} {p : Nat → Bool}, (∀ j, j < n → p j = false) → firstN p n = n
  | 0, _, _ => rfl
  | n + 1, p, h => by
    unfold firstN
    rw [if_neg (by rw [h 0 (Nat.succ_pos _)]; decide), firstN_none fun j hj => h (j + 1) (Nat.succ_lt_succ hj)]
theorem sfW_wf {w : mW} {f x b : Int} (hw : mWF w) (hb : inL b) : mWF (sfW w f x b) := by
  unfold sfW; split
  · exact hw.setL hb rfl rfl
  · exact hw.setL hb rfl rfl
theorem fvL_L {w : mW} {f x : Int} (hw : mWF w) : inL (fvL w f x) := by unfold fvL; split; exact hw.l _ _; exact hw.l _ _

set_option maxRecDepth 100000 in
theorem k7_sumType {l : Launch} {θ : zTh} {Pic : Heap → Prop} (a : Int) (b : Int) (r_a : inR a) (r_b : inR b)  : ZF θ l yX7_sumType cX7_sumType 3 (some .int) ⟨0, 0, 0, 0⟩ [.int (iI (a)), .int (iI (b))] (Pic) (some (.int (iI (suI a b)))) (Pic) := by
  refine z_start (own := RX7) (nm := "sumType") pnX7 rfl rfl (Nat.le_of_ble_eq_true rfl) ?_
  intro κ hκ hκl C
  change Z κ (Pic) 0 0 0 [(0, .int (iI (a))), (1, .int (iI (b)))] []
  refine z_iload_n C 1 0 dX7_sumType_0 rfl rfl ?_
  refine z_iload_n C 2 1 dX7_sumType_1 rfl rfl ?_
  refine z_icmp_le C 9 5 dX7_sumType_2 (by decide) r_a r_b rfl (fun c1 => ?_) (fun c1 => ?_)
  · skip
    refine z_iload_n C 10 1 dX7_sumType_9 rfl rfl ?_
    refine z_istore_n (lv' := [(0, .int (iI (a))), (1, .int (iI (b))), (2, .int (iI (b)))]) C 11 [1, 2, 0] dX7_sumType_10 (by decide) rfl rfl ?_
    refine z_iload_n C 12 2 dX7_sumType_11 rfl rfl ?_
    refine z_iconst C 13 dX7_sumType_12 rfl ?_
    refine z_icmp_le C 20 16 dX7_sumType_13 (by decide) r_b ⟨by decide, by decide⟩ rfl (fun c2 => ?_) (fun c2 => ?_)
    · skip
      refine z_iconst C 21 dX7_sumType_20 rfl ?_
      exact z_iret C dX7_sumType_21 rfl (Nat.le_of_ble_eq_true rfl) (Nat.le_of_ble_eq_true rfl) ⟨congrArg (fun z => some (Value.int (iI z))) (by unfold suI; repeat' split <;> omega), rfl⟩
    · skip
      refine z_iload_n C 17 2 dX7_sumType_16 rfl rfl ?_
      refine z_goto C 21 dX7_sumType_17 (by decide) ?_
      exact z_iret C dX7_sumType_21 rfl (Nat.le_of_ble_eq_true rfl) (Nat.le_of_ble_eq_true rfl) ⟨congrArg (fun z => some (Value.int (iI z))) (by unfold suI; repeat' split <;> omega), rfl⟩
  · skip
    refine z_iload_n C 6 0 dX7_sumType_5 rfl rfl ?_
    refine z_goto C 10 dX7_sumType_6 (by decide) ?_
    refine z_istore_n (lv' := [(0, .int (iI (a))), (1, .int (iI (b))), (2, .int (iI (a)))]) C 11 [1, 2, 0] dX7_sumType_10 (by decide) rfl rfl ?_
    refine z_iload_n C 12 2 dX7_sumType_11 rfl rfl ?_
    refine z_iconst C 13 dX7_sumType_12 rfl ?_
    refine z_icmp_le C 20 16 dX7_sumType_13 (by decide) r_a ⟨by decide, by decide⟩ rfl (fun c3 => ?_) (fun c3 => ?_)
    · skip
      refine z_iconst C 21 dX7_sumType_20 rfl ?_
      exact z_iret C dX7_sumType_21 rfl (Nat.le_of_ble_eq_true rfl) (Nat.le_of_ble_eq_true rfl) ⟨congrArg (fun z => some (Value.int (iI z))) (by unfold suI; repeat' split <;> omega), rfl⟩
    · skip
      refine z_iload_n C 17 2 dX7_sumType_16 rfl rfl ?_
      refine z_goto C 21 dX7_sumType_17 (by decide) ?_
      exact z_iret C dX7_sumType_21 rfl (Nat.le_of_ble_eq_true rfl) (Nat.le_of_ble_eq_true rfl) ⟨congrArg (fun z => some (Value.int (iI z))) (by unfold suI; repeat' split <;> omega), rfl⟩
set_option maxRecDepth 100000 in
theorem k7_comesTo {l : Launch} {θ : zTh} {N : zMap} {am : Nat} {ar : Nat → Nat} {w : mW} (hD : mDis am ar) (hw : mWF w) (t : Int) (b : Int) (r_t : inR t) (r_b : inL b)  : ZF θ l yX7_comesTo cX7_comesTo 4 none ⟨0, 0, 0, 0⟩ [.ref (am), .int (iI (t)), .long (lI (b))] (mP θ am ar w N) none (mP θ am ar (mset (mset w 49 0 t) 50 0 b) N) := by
  refine z_start (own := RX7) (nm := "comesTo") pnX7 rfl rfl (Nat.le_of_ble_eq_true rfl) ?_
  intro κ hκ hκl C
  change Z κ (mP θ am ar w N) 0 0 0 [(0, .ref (am)), (1, .int (iI (t))), (2, .long (lI (b)))] []
  refine z_aload_n C 1 0 dX7_comesTo_0 rfl rfl ?_
  refine z_iload_n C 2 1 dX7_comesTo_1 rfl rfl ?_
  obtain ⟨w1, ew1⟩ : ∃ wz, mset w 49 (0) (t) = wz := ⟨_, rfl⟩
  have hw1 : mWF w1 := ew1 ▸ hw.set r_t rfl
  refine m_puti (w' := w1) C hκ 5 49 (by decide) (by decide) rfl q2044 rfl rfl rfl rfl dX7_comesTo_2 rfl ew1 ?_
  refine z_aload_n C 6 0 dX7_comesTo_5 rfl rfl ?_
  refine z_lload_n C 7 2 dX7_comesTo_6 rfl rfl ?_
  obtain ⟨w2, ew2⟩ : ∃ wz, mset w1 50 (0) (b) = wz := ⟨_, rfl⟩
  have hw2 : mWF w2 := ew2 ▸ hw1.setL r_b rfl rfl
  refine m_putl (w' := w2) C hκ 10 50 (by decide) (by decide) rfl q2045 rfl rfl rfl rfl dX7_comesTo_7 rfl ew2 ?_
  exact z_vret C dX7_comesTo_10 (Nat.le_of_ble_eq_true rfl) (Nat.le_of_ble_eq_true rfl) ⟨rfl, (congrArg (fun w' => mP θ am ar w' N) (by subst_vars; rfl))⟩
set_option maxRecDepth 100000 in
theorem k7_fails {l : Launch} {θ : zTh} {N : zMap} {am : Nat} {ar : Nat → Nat} {w : mW} (hD : mDis am ar) (hw : mWF w) (k : Int) (m : Int) (d : Int) (r_k : inR k) (r_m : inR m) (r_d : inR d)  : ZF θ l yX7_fails cX7_fails 4 none ⟨0, 0, 0, 0⟩ [.ref (am), .int (iI (k)), .int (iI (m)), .int (iI (d))] (mP θ am ar w N) none (mP θ am ar (mset (mset (mset (mset w 51 0 k) 37 0 k) 38 0 m) 39 0 d) N) := by
  refine z_start (own := RX7) (nm := "fails") pnX7 rfl rfl (Nat.le_of_ble_eq_true rfl) ?_
  intro κ hκ hκl C
  change Z κ (mP θ am ar w N) 0 0 0 [(0, .ref (am)), (1, .int (iI (k))), (2, .int (iI (m))), (3, .int (iI (d)))] []
  refine z_aload_n C 1 0 dX7_fails_0 rfl rfl ?_
  refine z_iload_n C 2 1 dX7_fails_1 rfl rfl ?_
  obtain ⟨w1, ew1⟩ : ∃ wz, mset w 51 (0) (k) = wz := ⟨_, rfl⟩
  have hw1 : mWF w1 := ew1 ▸ hw.set r_k rfl
  refine m_puti (w' := w1) C hκ 5 51 (by decide) (by decide) rfl q2046 rfl rfl rfl rfl dX7_fails_2 rfl ew1 ?_
  refine z_aload_n C 6 0 dX7_fails_5 rfl rfl ?_
  refine z_iload_n C 7 1 dX7_fails_6 rfl rfl ?_
  obtain ⟨w2, ew2⟩ : ∃ wz, mset w1 37 (0) (k) = wz := ⟨_, rfl⟩
  have hw2 : mWF w2 := ew2 ▸ hw1.set r_k rfl
  refine m_puti (w' := w2) C hκ 10 37 (by decide) (by decide) rfl q2032 rfl rfl rfl rfl dX7_fails_7 rfl ew2 ?_
  refine z_aload_n C 11 0 dX7_fails_10 rfl rfl ?_
  refine z_iload_n C 12 2 dX7_fails_11 rfl rfl ?_
  obtain ⟨w3, ew3⟩ : ∃ wz, mset w2 38 (0) (m) = wz := ⟨_, rfl⟩
  have hw3 : mWF w3 := ew3 ▸ hw2.set r_m rfl
  refine m_puti (w' := w3) C hκ 15 38 (by decide) (by decide) rfl q2033 rfl rfl rfl rfl dX7_fails_12 rfl ew3 ?_
  refine z_aload_n C 16 0 dX7_fails_15 rfl rfl ?_
  refine z_iload_n C 17 3 dX7_fails_16 rfl rfl ?_
  obtain ⟨w4, ew4⟩ : ∃ wz, mset w3 39 (0) (d) = wz := ⟨_, rfl⟩
  have hw4 : mWF w4 := ew4 ▸ hw3.set r_d rfl
  refine m_puti (w' := w4) C hκ 20 39 (by decide) (by decide) rfl q2034 rfl rfl rfl rfl dX7_fails_17 rfl ew4 ?_
  exact z_vret C dX7_fails_20 (Nat.le_of_ble_eq_true rfl) (Nat.le_of_ble_eq_true rfl) ⟨rfl, (congrArg (fun w' => mP θ am ar w' N) (by subst_vars; rfl))⟩
set_option maxRecDepth 100000 in
theorem k7_slotGoes {l : Launch} {θ : zTh} {N : zMap} {am : Nat} {ar : Nat → Nat} {w : mW} (hD : mDis am ar) (hw : mWF w) (s : Int) (t : Int) (r_s : inR s) (r_t : inR t) (hS : mS w) (hs : 0 ≤ s ∧ s < 8) (ht : 0 ≤ t ∧ t < 60) : ZF θ l yX7_slotGoes cX7_slotGoes 3 (some .boolean) ⟨1, 0, 0, 22⟩ [.ref (am), .int (iI (s)), .int (iI (t))] (mP θ am ar w N) (some (.int (iI (bI (sgB w s t))))) (mP θ am ar w N) := by
  refine z_start (own := RX7) (nm := "slotGoes") pnX7 rfl rfl (Nat.le_of_ble_eq_true rfl) ?_
  intro κ hκ hκl C
  change Z κ (mP θ am ar w N) 0 0 0 [(0, .ref (am)), (1, .int (iI (s))), (2, .int (iI (t)))] []
  have hB := hS.B
  obtain ⟨hB1, hB2, hB3, hB4, hB5, hB6⟩ := hS.B
  have hC := hS.C
  refine z_aload_n C 1 0 dX7_slotGoes_0 rfl rfl ?_
  refine m_geta C hκ 4 32 (by decide) rfl q2027 rfl dX7_slotGoes_1 rfl ?_
  refine z_iload_n C 5 1 dX7_slotGoes_4 rfl rfl ?_
  obtain ⟨f1a, f1b⟩ := hS.L (show 0 ≤ s by omega) (by omega)
  refine m_iald (len := 8) C hκ hD 6 32 (by decide) rfl rfl (by omega) (by omega) dX7_slotGoes_5 rfl ?_
  refine z_bipush C 8 dX7_slotGoes_6 (by decide) rfl ?_
  refine z_icmp_ge C 36 11 dX7_slotGoes_8 (by decide) (hw.r _ _ rfl) ⟨by decide, by decide⟩ rfl (fun c2 => ?_) (fun c2 => ?_)
  · skip
    refine z_iload_n C 37 2 dX7_slotGoes_36 rfl rfl ?_
    refine z_bipush C 39 dX7_slotGoes_37 (by decide) rfl ?_
    refine z_icmp_lt C 77 42 dX7_slotGoes_39 (by decide) r_t ⟨by decide, by decide⟩ rfl (fun c3 => ?_) (fun c3 => ?_)
    · skip
      refine z_iconst C 78 dX7_slotGoes_77 rfl ?_
      refine z_as (st' := [.int (iI (bI (false)))]) rfl rfl rfl ?_
      exact z_iret C dX7_slotGoes_78 (bI_nar _) (Nat.le_of_ble_eq_true rfl) (Nat.le_of_ble_eq_true rfl) ⟨congrArg (fun b => some (Value.int (iI (bI b)))) (by clear C hκ hκl hS hB hB1 hB2 hB3 hB4 hB5 hB6 hC hD hw f1a f1b; unfold sgB; first | (simp_all; done) | grind | (simp_all <;> omega)), rfl⟩
    · skip
      refine z_aload_n C 43 0 dX7_slotGoes_42 rfl rfl ?_
      refine m_geta C hκ 46 33 (by decide) rfl q2028 rfl dX7_slotGoes_43 rfl ?_
      refine z_iload_n C 47 1 dX7_slotGoes_46 rfl rfl ?_
      refine m_lald (len := 8) C hκ hD 48 33 (by decide) rfl rfl (by omega) (by omega) dX7_slotGoes_47 rfl ?_
      refine z_lconst (x := 0) C 49 dX7_slotGoes_48 rfl rfl ?_
      refine z_lcmp C 50 dX7_slotGoes_49 (hw.l _ _) ⟨by decide, by decide⟩ rfl ?_
      refine z_ifC_lt C 73 53 dX7_slotGoes_50 (by decide) rfl (fun c4 => ?_) (fun c4 => ?_)
      · skip
        refine z_iconst C 74 dX7_slotGoes_73 rfl ?_
        refine z_goto C 78 dX7_slotGoes_74 (by decide) ?_
        refine z_as (st' := [.int (iI (bI (true)))]) rfl rfl rfl ?_
        exact z_iret C dX7_slotGoes_78 (bI_nar _) (Nat.le_of_ble_eq_true rfl) (Nat.le_of_ble_eq_true rfl) ⟨congrArg (fun b => some (Value.int (iI (bI b)))) (by clear C hκ hκl hS hB hB1 hB2 hB3 hB4 hB5 hB6 hC hD hw f1a f1b; unfold sgB; first | (simp_all; done) | grind | (simp_all <;> omega)), rfl⟩
      · skip
        refine z_aload_n C 54 0 dX7_slotGoes_53 rfl rfl ?_
        refine z_aload_n C 55 0 dX7_slotGoes_54 rfl rfl ?_
        refine m_geta C hκ 58 28 (by decide) rfl q2023 rfl dX7_slotGoes_55 rfl ?_
        refine z_aload_n C 59 0 dX7_slotGoes_58 rfl rfl ?_
        refine m_geta C hκ 62 33 (by decide) rfl q2028 rfl dX7_slotGoes_59 rfl ?_
        refine z_iload_n C 63 1 dX7_slotGoes_62 rfl rfl ?_
        refine m_lald (len := 8) C hκ hD 64 33 (by decide) rfl rfl (by omega) (by omega) dX7_slotGoes_63 rfl ?_
        refine z_l2i C 65 dX7_slotGoes_64 rfl ?_
        obtain ⟨f5a, f5b, f5c⟩ := hS.X (show 0 ≤ w 33 (s) by omega) (by omega)
        refine m_iald (len := 80) C hκ hD 66 28 (by decide) rfl rfl (by omega) (by omega) dX7_slotGoes_65 rfl ?_
        refine z_iload_n C 67 2 dX7_slotGoes_66 rfl rfl ?_
        refine z_callVF (n' := 0) (k' := 0) (As := [.int (iI (w 28 (w 33 (s)))), .int (iI (t))]) (rest := []) C hκ hκl 70 (k7_isOne hD hw (w 28 (w 33 (s))) (t) (hw.r _ _ rfl) r_t (by omega) (by omega)) dX7_slotGoes_67 q2197 q2199 qs44 q97 q2200 znX7_isOne (Nat.le_of_ble_eq_true rfl) (Nat.le_of_ble_eq_true rfl) (Nat.le_of_ble_eq_true rfl) (Nat.le_of_ble_eq_true rfl) mrec rfl rfl (Nat.le_of_ble_eq_true rfl) rfl rfl rfl ?_
        refine z_ifB_eq C 77 73 dX7_slotGoes_70 (by decide) rfl (fun c6 => ?_) (fun c6 => ?_)
        · skip
          refine z_iconst C 78 dX7_slotGoes_77 rfl ?_
          refine z_as (st' := [.int (iI (bI (false)))]) rfl rfl rfl ?_
          exact z_iret C dX7_slotGoes_78 (bI_nar _) (Nat.le_of_ble_eq_true rfl) (Nat.le_of_ble_eq_true rfl) ⟨congrArg (fun b => some (Value.int (iI (bI b)))) (by clear C hκ hκl hS hB hB1 hB2 hB3 hB4 hB5 hB6 hC hD hw f1a f1b f5a f5b f5c; unfold sgB; first | (simp_all; done) | grind | (simp_all <;> omega)), rfl⟩
        · skip
          refine z_iconst C 74 dX7_slotGoes_73 rfl ?_
          refine z_goto C 78 dX7_slotGoes_74 (by decide) ?_
          refine z_as (st' := [.int (iI (bI (true)))]) rfl rfl rfl ?_
          exact z_iret C dX7_slotGoes_78 (bI_nar _) (Nat.le_of_ble_eq_true rfl) (Nat.le_of_ble_eq_true rfl) ⟨congrArg (fun b => some (Value.int (iI (bI b)))) (by clear C hκ hκl hS hB hB1 hB2 hB3 hB4 hB5 hB6 hC hD hw f1a f1b f5a f5b f5c; unfold sgB; first | (simp_all; done) | grind | (simp_all <;> omega)), rfl⟩
  · skip
    refine z_iload_n C 12 2 dX7_slotGoes_11 rfl rfl ?_
    refine z_bipush C 14 dX7_slotGoes_12 (by decide) rfl ?_
    refine z_icmp_ge C 34 17 dX7_slotGoes_14 (by decide) r_t ⟨by decide, by decide⟩ rfl (fun c7 => ?_) (fun c7 => ?_)
    · skip
      refine z_iconst C 35 dX7_slotGoes_34 rfl ?_
      refine z_as (st' := [.int (iI (bI (false)))]) rfl rfl rfl ?_
      exact z_iret C dX7_slotGoes_35 (bI_nar _) (Nat.le_of_ble_eq_true rfl) (Nat.le_of_ble_eq_true rfl) ⟨congrArg (fun b => some (Value.int (iI (bI b)))) (by clear C hκ hκl hS hB hB1 hB2 hB3 hB4 hB5 hB6 hC hD hw f1a f1b; unfold sgB; first | (simp_all; done) | grind | (simp_all <;> omega)), rfl⟩
    · skip
      refine z_aload_n C 18 0 dX7_slotGoes_17 rfl rfl ?_
      refine m_geta C hκ 21 32 (by decide) rfl q2027 rfl dX7_slotGoes_18 rfl ?_
      refine z_iload_n C 22 1 dX7_slotGoes_21 rfl rfl ?_
      refine m_iald (len := 8) C hκ hD 23 32 (by decide) rfl rfl (by omega) (by omega) dX7_slotGoes_22 rfl ?_
      refine z_iload_n C 24 2 dX7_slotGoes_23 rfl rfl ?_
      refine z_callSF (n' := 0) (k' := 0) (As := [.int (iI (w 32 (s))), .int (iI (t))]) (rest := []) C hκ hκl 27 (k7_widens (w 32 (s)) (t) (hw.r _ _ rfl) r_t) dX7_slotGoes_24 q2213 q2214 q97 q2215 znX7_widens (Nat.le_of_ble_eq_true rfl) (Nat.le_of_ble_eq_true rfl) (Nat.le_of_ble_eq_true rfl) (Nat.le_of_ble_eq_true rfl) rfl (Nat.le_of_ble_eq_true rfl) rfl rfl rfl ?_
      refine z_ifB_eq C 34 30 dX7_slotGoes_27 (by decide) rfl (fun c8 => ?_) (fun c8 => ?_)
      · skip
        refine z_iconst C 35 dX7_slotGoes_34 rfl ?_
        refine z_as (st' := [.int (iI (bI (false)))]) rfl rfl rfl ?_
        exact z_iret C dX7_slotGoes_35 (bI_nar _) (Nat.le_of_ble_eq_true rfl) (Nat.le_of_ble_eq_true rfl) ⟨congrArg (fun b => some (Value.int (iI (bI b)))) (by clear C hκ hκl hS hB hB1 hB2 hB3 hB4 hB5 hB6 hC hD hw f1a f1b; unfold sgB; first | (simp_all; done) | grind | (simp_all <;> omega)), rfl⟩
      · skip
        refine z_iconst C 31 dX7_slotGoes_30 rfl ?_
        refine z_goto C 35 dX7_slotGoes_31 (by decide) ?_
        refine z_as (st' := [.int (iI (bI (true)))]) rfl rfl rfl ?_
        exact z_iret C dX7_slotGoes_35 (bI_nar _) (Nat.le_of_ble_eq_true rfl) (Nat.le_of_ble_eq_true rfl) ⟨congrArg (fun b => some (Value.int (iI (bI b)))) (by clear C hκ hκl hS hB hB1 hB2 hB3 hB4 hB5 hB6 hC hD hw f1a f1b; unfold sgB; first | (simp_all; done) | grind | (simp_all <;> omega)), rfl⟩
set_option maxRecDepth 100000 in
theorem k7_mayTell {l : Launch} {θ : zTh} {Pic : Heap → Prop} (t : Int) (a : Int) (r_t : inR t) (r_a : inR a)  : ZF θ l yX7_mayTell cX7_mayTell 2 (some .boolean) ⟨1, 0, 0, 21⟩ [.int (iI (t)), .int (iI (a))] (Pic) (some (.int (iI (bI (mtlB t a))))) (Pic) := by
  refine z_start (own := RX7) (nm := "mayTell") pnX7 rfl rfl (Nat.le_of_ble_eq_true rfl) ?_
  intro κ hκ hκl C
  change Z κ (Pic) 0 0 0 [(0, .int (iI (t))), (1, .int (iI (a)))] []
  refine z_iload_n C 1 0 dX7_mayTell_0 rfl rfl ?_
  refine z_bipush C 3 dX7_mayTell_1 (by decide) rfl ?_
  refine z_icmp_ge C 28 6 dX7_mayTell_3 (by decide) r_t ⟨by decide, by decide⟩ rfl (fun c1 => ?_) (fun c1 => ?_)
  · skip
    refine z_iload_n C 29 1 dX7_mayTell_28 rfl rfl ?_
    refine z_bipush C 31 dX7_mayTell_29 (by decide) rfl ?_
    refine z_icmp_ne C 38 34 dX7_mayTell_31 (by decide) r_a ⟨by decide, by decide⟩ rfl (fun c2 => ?_) (fun c2 => ?_)
    · skip
      refine z_iconst C 39 dX7_mayTell_38 rfl ?_
      refine z_as (st' := [.int (iI (bI (false)))]) rfl rfl rfl ?_
      exact z_iret C dX7_mayTell_39 (bI_nar _) (Nat.le_of_ble_eq_true rfl) (Nat.le_of_ble_eq_true rfl) ⟨congrArg (fun b => some (Value.int (iI (bI b)))) (by clear C hκ hκl ; unfold mtlB; first | (simp_all; done) | grind | (simp_all <;> omega)), rfl⟩
    · skip
      refine z_iconst C 35 dX7_mayTell_34 rfl ?_
      refine z_goto C 39 dX7_mayTell_35 (by decide) ?_
      refine z_as (st' := [.int (iI (bI (true)))]) rfl rfl rfl ?_
      exact z_iret C dX7_mayTell_39 (bI_nar _) (Nat.le_of_ble_eq_true rfl) (Nat.le_of_ble_eq_true rfl) ⟨congrArg (fun b => some (Value.int (iI (bI b)))) (by clear C hκ hκl ; unfold mtlB; first | (simp_all; done) | grind | (simp_all <;> omega)), rfl⟩
  · skip
    refine z_iload_n C 7 1 dX7_mayTell_6 rfl rfl ?_
    refine z_bipush C 9 dX7_mayTell_7 (by decide) rfl ?_
    refine z_icmp_ge C 24 12 dX7_mayTell_9 (by decide) r_a ⟨by decide, by decide⟩ rfl (fun c3 => ?_) (fun c3 => ?_)
    · skip
      refine z_iconst C 25 dX7_mayTell_24 rfl ?_
      refine z_goto C 39 dX7_mayTell_25 (by decide) ?_
      refine z_as (st' := [.int (iI (bI (false)))]) rfl rfl rfl ?_
      exact z_iret C dX7_mayTell_39 (bI_nar _) (Nat.le_of_ble_eq_true rfl) (Nat.le_of_ble_eq_true rfl) ⟨congrArg (fun b => some (Value.int (iI (bI b)))) (by clear C hκ hκl ; unfold mtlB; first | (simp_all; done) | grind | (simp_all <;> omega)), rfl⟩
    · skip
      refine z_iload_n C 13 0 dX7_mayTell_12 rfl rfl ?_
      refine z_iload_n C 14 1 dX7_mayTell_13 rfl rfl ?_
      refine z_callSF (n' := 0) (k' := 0) (As := [.int (iI (t)), .int (iI (a))]) (rest := []) C hκ hκl 17 (k7_widens (t) (a) r_t r_a) dX7_mayTell_14 q2213 q2214 q97 q2215 znX7_widens (Nat.le_of_ble_eq_true rfl) (Nat.le_of_ble_eq_true rfl) (Nat.le_of_ble_eq_true rfl) (Nat.le_of_ble_eq_true rfl) rfl (Nat.le_of_ble_eq_true rfl) rfl rfl rfl ?_
      refine z_ifB_eq C 24 20 dX7_mayTell_17 (by decide) rfl (fun c4 => ?_) (fun c4 => ?_)
      · skip
        refine z_iconst C 25 dX7_mayTell_24 rfl ?_
        refine z_goto C 39 dX7_mayTell_25 (by decide) ?_
        refine z_as (st' := [.int (iI (bI (false)))]) rfl rfl rfl ?_
        exact z_iret C dX7_mayTell_39 (bI_nar _) (Nat.le_of_ble_eq_true rfl) (Nat.le_of_ble_eq_true rfl) ⟨congrArg (fun b => some (Value.int (iI (bI b)))) (by clear C hκ hκl ; unfold mtlB; first | (simp_all; done) | grind | (simp_all <;> omega)), rfl⟩
      · skip
        refine z_iconst C 21 dX7_mayTell_20 rfl ?_
        refine z_goto C 39 dX7_mayTell_21 (by decide) ?_
        refine z_as (st' := [.int (iI (bI (true)))]) rfl rfl rfl ?_
        exact z_iret C dX7_mayTell_39 (bI_nar _) (Nat.le_of_ble_eq_true rfl) (Nat.le_of_ble_eq_true rfl) ⟨congrArg (fun b => some (Value.int (iI (bI b)))) (by clear C hκ hκl ; unfold mtlB; first | (simp_all; done) | grind | (simp_all <;> omega)), rfl⟩
set_option maxRecDepth 100000 in
theorem k7_against {l : Launch} {θ : zTh} {N : zMap} {am : Nat} {ar : Nat → Nat} {w : mW} (hD : mDis am ar) (hw : mWF w) (m : Int) (x : Int) (r_m : inR m) (r_x : inR x) (hS : mS w) (hm : 0 ≤ m ∧ m < w 11 0) (hx : -1 ≤ x ∧ x < w 27 0) : ZF θ l yX7_against cX7_against 3 (some .int) ⟨1, 0, 0, 22⟩ [.ref (am), .int (iI (m)), .int (iI (x))] (mP θ am ar w N) (some (.int (iI (agI w m x)))) (mP θ am ar w N) := by
  refine z_start (own := RX7) (nm := "against") pnX7 rfl rfl (Nat.le_of_ble_eq_true rfl) ?_
  intro κ hκ hκl C
  change Z κ (mP θ am ar w N) 0 0 0 [(0, .ref (am)), (1, .int (iI (m))), (2, .int (iI (x)))] []
  have hB := hS.B
  obtain ⟨hB1, hB2, hB3, hB4, hB5, hB6⟩ := hS.B
  have hC := hS.C
  refine z_aload_n C 1 0 dX7_against_0 rfl rfl ?_
  refine z_iload_n C 2 1 dX7_against_1 rfl rfl ?_
  refine z_iconst C 3 dX7_against_2 rfl ?_
  refine z_callVF (n' := 0) (k' := 0) (As := [.int (iI (m)), .int (iI (4))]) (rest := []) C hκ hκl 6 (k7_has hD hw (m) (4) r_m ⟨by decide, by decide⟩ (by omega)) dX7_against_3 q2271 q2273 qs53 q97 q2274 znX7_has (Nat.le_of_ble_eq_true rfl) (Nat.le_of_ble_eq_true rfl) (Nat.le_of_ble_eq_true rfl) (Nat.le_of_ble_eq_true rfl) mrec rfl rfl (Nat.le_of_ble_eq_true rfl) rfl rfl rfl ?_
  refine z_ifB_eq C 11 9 dX7_against_6 (by decide) rfl (fun c1 => ?_) (fun c1 => ?_)
  · skip
    refine z_iload_n C 12 2 dX7_against_11 rfl rfl ?_
    refine z_iconst C 13 dX7_against_12 rfl ?_
    refine z_icmp_ne C 20 16 dX7_against_13 (by decide) r_x ⟨by decide, by decide⟩ rfl (fun c2 => ?_) (fun c2 => ?_)
    · skip
      refine z_aload_n C 21 0 dX7_against_20 rfl rfl ?_
      refine z_aload_n C 22 0 dX7_against_21 rfl rfl ?_
      refine m_geta C hκ 25 28 (by decide) rfl q2023 rfl dX7_against_22 rfl ?_
      refine z_iload_n C 26 2 dX7_against_25 rfl rfl ?_
      obtain ⟨f3a, f3b, f3c⟩ := hS.X (show 0 ≤ x by omega) (by omega)
      refine m_iald (len := 80) C hκ hD 27 28 (by decide) rfl rfl (by omega) (by omega) dX7_against_26 rfl ?_
      refine z_aload_n C 28 0 dX7_against_27 rfl rfl ?_
      refine m_geta C hκ 31 13 (by decide) rfl q2008 rfl dX7_against_28 rfl ?_
      refine z_iload_n C 32 1 dX7_against_31 rfl rfl ?_
      obtain ⟨f4a, f4b, f4c, f4d⟩ := hS.M (show 0 ≤ m by omega) (by omega)
      refine m_iald (len := 100) C hκ hD 33 13 (by decide) rfl rfl (by omega) (by omega) dX7_against_32 rfl ?_
      refine z_callVF (n' := 0) (k' := 0) (As := [.int (iI (w 28 (x))), .int (iI (w 13 (m)))]) (rest := []) C hκ hκl 36 (k7_isOne hD hw (w 28 (x)) (w 13 (m)) (hw.r _ _ rfl) (hw.r _ _ rfl) (by omega) (by omega)) dX7_against_33 q2197 q2199 qs44 q97 q2200 znX7_isOne (Nat.le_of_ble_eq_true rfl) (Nat.le_of_ble_eq_true rfl) (Nat.le_of_ble_eq_true rfl) (Nat.le_of_ble_eq_true rfl) mrec rfl rfl (Nat.le_of_ble_eq_true rfl) rfl rfl rfl ?_
      refine z_ifB_ne C 43 39 dX7_against_36 (by decide) rfl (fun c5 => ?_) (fun c5 => ?_)
      · skip
        refine z_iconst C 44 dX7_against_43 rfl ?_
        exact z_iret C dX7_against_44 rfl (Nat.le_of_ble_eq_true rfl) (Nat.le_of_ble_eq_true rfl) ⟨congrArg (fun z => some (Value.int (iI z))) (by clear C hκ hκl hS hB hB1 hB2 hB3 hB4 hB5 hB6 hC hD hw f3a f3b f3c f4a f4b f4c f4d; unfold agI; first | (simp_all; done) | grind | (simp_all <;> omega)), rfl⟩
      · skip
        refine z_iconst C 40 dX7_against_39 rfl ?_
        refine z_goto C 44 dX7_against_40 (by decide) ?_
        exact z_iret C dX7_against_44 rfl (Nat.le_of_ble_eq_true rfl) (Nat.le_of_ble_eq_true rfl) ⟨congrArg (fun z => some (Value.int (iI z))) (by clear C hκ hκl hS hB hB1 hB2 hB3 hB4 hB5 hB6 hC hD hw f3a f3b f3c f4a f4b f4c f4d; unfold agI; first | (simp_all; done) | grind | (simp_all <;> omega)), rfl⟩
    · skip
      refine z_iconst C 17 dX7_against_16 rfl ?_
      refine z_goto C 44 dX7_against_17 (by decide) ?_
      exact z_iret C dX7_against_44 rfl (Nat.le_of_ble_eq_true rfl) (Nat.le_of_ble_eq_true rfl) ⟨congrArg (fun z => some (Value.int (iI z))) (by clear C hκ hκl hS hB hB1 hB2 hB3 hB4 hB5 hB6 hC hD hw; unfold agI; first | (simp_all; done) | grind | (simp_all <;> omega)), rfl⟩
  · skip
    refine z_iconst C 10 dX7_against_9 rfl ?_
    exact z_iret C dX7_against_10 rfl (Nat.le_of_ble_eq_true rfl) (Nat.le_of_ble_eq_true rfl) ⟨congrArg (fun z => some (Value.int (iI z))) (by clear C hκ hκl hS hB hB1 hB2 hB3 hB4 hB5 hB6 hC hD hw; unfold agI; first | (simp_all; done) | grind | (simp_all <;> omega)), rfl⟩
set_option maxRecDepth 100000 in
theorem k7_fieldValue {l : Launch} {θ : zTh} {N : zMap} {am : Nat} {ar : Nat → Nat} {w : mW} (hD : mDis am ar) (hw : mWF w) (f : Int) (x : Int) (r_f : inR f) (r_x : inR x) (hS : mS w) (hm : 0 ≤ f ∧ f < w 11 0) (hx : hasB w f 4 = false → 0 ≤ x ∧ x < w 27 0) : ZF θ l yX7_fieldValue cX7_fieldValue 3 (some .long) ⟨1, 0, 0, 22⟩ [.ref (am), .int (iI (f)), .int (iI (x))] (mP θ am ar w N) (some (.long (lI (fvL w f x)))) (mP θ am ar w N) := by
  refine z_start (own := RX7) (nm := "fieldValue") pnX7 rfl rfl (Nat.le_of_ble_eq_true rfl) ?_
  intro κ hκ hκl C
  change Z κ (mP θ am ar w N) 0 0 0 [(0, .ref (am)), (1, .int (iI (f))), (2, .int (iI (x)))] []
  have hB := hS.B
  obtain ⟨hB1, hB2, hB3, hB4, hB5, hB6⟩ := hS.B
  have hC := hS.C
  refine z_aload_n C 1 0 dX7_fieldValue_0 rfl rfl ?_
  refine z_iload_n C 2 1 dX7_fieldValue_1 rfl rfl ?_
  refine z_iconst C 3 dX7_fieldValue_2 rfl ?_
  refine z_callVF (n' := 0) (k' := 0) (As := [.int (iI (f)), .int (iI (4))]) (rest := []) C hκ hκl 6 (k7_has hD hw (f) (4) r_f ⟨by decide, by decide⟩ (by omega)) dX7_fieldValue_3 q2271 q2273 qs53 q97 q2274 znX7_has (Nat.le_of_ble_eq_true rfl) (Nat.le_of_ble_eq_true rfl) (Nat.le_of_ble_eq_true rfl) (Nat.le_of_ble_eq_true rfl) mrec rfl rfl (Nat.le_of_ble_eq_true rfl) rfl rfl rfl ?_
  refine z_ifB_eq C 18 9 dX7_fieldValue_6 (by decide) rfl (fun c1 => ?_) (fun c1 => ?_)
  · skip
    have hx' := hx (by simp_all)
    refine z_aload_n C 19 0 dX7_fieldValue_18 rfl rfl ?_
    refine m_geta C hκ 22 30 (by decide) rfl q2025 rfl dX7_fieldValue_19 rfl ?_
    refine z_bipush C 24 dX7_fieldValue_22 (by decide) rfl ?_
    refine z_iload_n C 25 2 dX7_fieldValue_24 rfl rfl ?_
    refine z_imul C 26 dX7_fieldValue_25 rfl ?_
    refine z_iload_n C 27 1 dX7_fieldValue_26 rfl rfl ?_
    refine z_iadd C 28 dX7_fieldValue_27 rfl ?_
    refine m_lald (len := 8000) C hκ hD 29 30 (by decide) rfl rfl (by omega) (by omega) dX7_fieldValue_28 rfl ?_
    exact z_lret C dX7_fieldValue_29 (Nat.le_of_ble_eq_true rfl) (Nat.le_of_ble_eq_true rfl) ⟨congrArg (fun z => some (Value.long (lI z))) (by clear C hκ hκl hS hB hB1 hB2 hB3 hB4 hB5 hB6 hC hD hw; unfold fvL; first | (simp_all; done) | grind | (simp_all <;> omega)), rfl⟩
  · skip
    refine z_aload_n C 10 0 dX7_fieldValue_9 rfl rfl ?_
    refine m_geta C hκ 13 26 (by decide) rfl q2021 rfl dX7_fieldValue_10 rfl ?_
    refine z_iload_n C 14 1 dX7_fieldValue_13 rfl rfl ?_
    obtain ⟨f2a, f2b, f2c, f2d⟩ := hS.M (show 0 ≤ f by omega) (by omega)
    refine m_lald (len := 100) C hκ hD 15 26 (by decide) rfl rfl (by omega) (by omega) dX7_fieldValue_14 rfl ?_
    refine z_goto C 29 dX7_fieldValue_15 (by decide) ?_
    exact z_lret C dX7_fieldValue_29 (Nat.le_of_ble_eq_true rfl) (Nat.le_of_ble_eq_true rfl) ⟨congrArg (fun z => some (Value.long (lI z))) (by clear C hκ hκl hS hB hB1 hB2 hB3 hB4 hB5 hB6 hC hD hw f2a f2b f2c f2d; unfold fvL; first | (simp_all; done) | grind | (simp_all <;> omega)), rfl⟩
set_option maxRecDepth 100000 in
theorem k7_setField {l : Launch} {θ : zTh} {N : zMap} {am : Nat} {ar : Nat → Nat} {w : mW} (hD : mDis am ar) (hw : mWF w) (f : Int) (x : Int) (b : Int) (r_f : inR f) (r_x : inR x) (r_b : inL b) (hS : mS w) (hm : 0 ≤ f ∧ f < w 11 0) (hx : hasB w f 4 = false → 0 ≤ x ∧ x < w 27 0) : ZF θ l yX7_setField cX7_setField 5 none ⟨1, 0, 0, 22⟩ [.ref (am), .int (iI (f)), .int (iI (x)), .long (lI (b))] (mP θ am ar w N) none (mP θ am ar (sfW w f x b) N) := by
  refine z_start (own := RX7) (nm := "setField") pnX7 rfl rfl (Nat.le_of_ble_eq_true rfl) ?_
  intro κ hκ hκl C
  change Z κ (mP θ am ar w N) 0 0 0 [(0, .ref (am)), (1, .int (iI (f))), (2, .int (iI (x))), (3, .long (lI (b)))] []
  have hB := hS.B
  obtain ⟨hB1, hB2, hB3, hB4, hB5, hB6⟩ := hS.B
  have hC := hS.C
  refine z_aload_n C 1 0 dX7_setField_0 rfl rfl ?_
  refine z_iload_n C 2 1 dX7_setField_1 rfl rfl ?_
  refine z_iconst C 3 dX7_setField_2 rfl ?_
  refine z_callVF (n' := 0) (k' := 0) (As := [.int (iI (f)), .int (iI (4))]) (rest := []) C hκ hκl 6 (k7_has hD hw (f) (4) r_f ⟨by decide, by decide⟩ (by omega)) dX7_setField_3 q2271 q2273 qs53 q97 q2274 znX7_has (Nat.le_of_ble_eq_true rfl) (Nat.le_of_ble_eq_true rfl) (Nat.le_of_ble_eq_true rfl) (Nat.le_of_ble_eq_true rfl) mrec rfl rfl (Nat.le_of_ble_eq_true rfl) rfl rfl rfl ?_
  refine z_ifB_eq C 19 9 dX7_setField_6 (by decide) rfl (fun c1 => ?_) (fun c1 => ?_)
  · skip
    have hx' := hx (by simp_all)
    refine z_aload_n C 20 0 dX7_setField_19 rfl rfl ?_
    refine m_geta C hκ 23 30 (by decide) rfl q2025 rfl dX7_setField_20 rfl ?_
    refine z_bipush C 25 dX7_setField_23 (by decide) rfl ?_
    refine z_iload_n C 26 2 dX7_setField_25 rfl rfl ?_
    refine z_imul C 27 dX7_setField_26 rfl ?_
    refine z_iload_n C 28 1 dX7_setField_27 rfl rfl ?_
    refine z_iadd C 29 dX7_setField_28 rfl ?_
    refine z_lload_n C 30 3 dX7_setField_29 rfl rfl ?_
    obtain ⟨w1, ew1⟩ : ∃ wz, mset w 30 (((100) * (x)) + (f)) (b) = wz := ⟨_, rfl⟩
    have hw1 : mWF w1 := ew1 ▸ hw.setL r_b rfl rfl
    refine m_last (len := 8000) (w' := w1) C hκ hD 31 30 (by decide) rfl rfl (by omega) (by omega) dX7_setField_30 rfl ew1 ?_
    exact z_vret C dX7_setField_31 (Nat.le_of_ble_eq_true rfl) (Nat.le_of_ble_eq_true rfl) ⟨rfl, (congrArg (fun w' => mP θ am ar w' N) (by clear C hκ hκl hS hB hB1 hB2 hB3 hB4 hB5 hB6 hC hD hw; unfold sfW; subst_vars; simp_all))⟩
  · skip
    refine z_aload_n C 10 0 dX7_setField_9 rfl rfl ?_
    refine m_geta C hκ 13 26 (by decide) rfl q2021 rfl dX7_setField_10 rfl ?_
    refine z_iload_n C 14 1 dX7_setField_13 rfl rfl ?_
    refine z_lload_n C 15 3 dX7_setField_14 rfl rfl ?_
    obtain ⟨w2, ew2⟩ : ∃ wz, mset w 26 (f) (b) = wz := ⟨_, rfl⟩
    have hw2 : mWF w2 := ew2 ▸ hw.setL r_b rfl rfl
    refine m_last (len := 100) (w' := w2) C hκ hD 16 26 (by decide) rfl rfl (by omega) (by omega) dX7_setField_15 rfl ew2 ?_
    refine z_goto C 31 dX7_setField_16 (by decide) ?_
    exact z_vret C dX7_setField_31 (Nat.le_of_ble_eq_true rfl) (Nat.le_of_ble_eq_true rfl) ⟨rfl, (congrArg (fun w' => mP θ am ar w' N) (by clear C hκ hκl hS hB hB1 hB2 hB3 hB4 hB5 hB6 hC hD hw; unfold sfW; subst_vars; simp_all))⟩
set_option maxRecDepth 100000 in
theorem k7_againstItem {l : Launch} {θ : zTh} {N : zMap} {am : Nat} {ar : Nat → Nat} {w : mW} (hD : mDis am ar) (hw : mWF w) (x : Int) (i : Int) (p : Bool) (r_x : inR x) (r_i : inR i) (hS : mS w) (hx : -1 ≤ x ∧ x < w 27 0) : ZF θ l yX7_againstItem cX7_againstItem 4 (some .int) ⟨1, 0, 0, 25⟩ [.ref (am), .int (iI (x)), .int (iI (i)), .int (iI (bI (p)))] (mP θ am ar w N) (some (.int (iI (aiI w x i p)))) (mP θ am ar w N) := by
  refine z_start (own := RX7) (nm := "againstItem") pnX7 rfl rfl (Nat.le_of_ble_eq_true rfl) ?_
  intro κ hκ hκl C
  change Z κ (mP θ am ar w N) 0 0 0 [(0, .ref (am)), (1, .int (iI (x))), (2, .int (iI (i))), (3, .int (iI (bI (p))))] []
  have hB := hS.B
  obtain ⟨hB1, hB2, hB3, hB4, hB5, hB6⟩ := hS.B
  have hC := hS.C
  refine z_iload_n C 1 1 dX7_againstItem_0 rfl rfl ?_
  refine z_iconst C 2 dX7_againstItem_1 rfl ?_
  refine z_icmp_ne C 7 5 dX7_againstItem_2 (by decide) r_x ⟨by decide, by decide⟩ rfl (fun c1 => ?_) (fun c1 => ?_)
  · skip
    refine z_aload_n C 8 0 dX7_againstItem_7 rfl rfl ?_
    refine m_geta C hκ 11 29 (by decide) rfl q2024 rfl dX7_againstItem_8 rfl ?_
    refine z_iload_n C 12 1 dX7_againstItem_11 rfl rfl ?_
    obtain ⟨f2a, f2b, f2c⟩ := hS.X (show 0 ≤ x by omega) (by omega)
    refine m_iald (len := 80) C hκ hD 13 29 (by decide) rfl rfl (by omega) (by omega) dX7_againstItem_12 rfl ?_
    refine z_iconst C 14 dX7_againstItem_13 rfl ?_
    refine z_icmp_eq C 42 17 dX7_againstItem_14 (by decide) (hw.r _ _ rfl) ⟨by decide, by decide⟩ rfl (fun c3 => ?_) (fun c3 => ?_)
    · skip
      refine z_iconst C 43 dX7_againstItem_42 rfl ?_
      exact z_iret C dX7_againstItem_43 rfl (Nat.le_of_ble_eq_true rfl) (Nat.le_of_ble_eq_true rfl) ⟨congrArg (fun z => some (Value.int (iI z))) (by clear C hκ hκl hS hB hB1 hB2 hB3 hB4 hB5 hB6 hC hD hw f2a f2b f2c; unfold aiI; cases p <;> (try simp only [bI, if_true, if_false, Bool.false_eq_true] at *) <;> (repeat' split) <;> first | rfl | omega | (rename_i h; simp at h; omega) | (rename_i h h2; simp at h h2; omega) | (exfalso; simp_all; done)), rfl⟩
    · skip
      refine z_aload_n C 18 0 dX7_againstItem_17 rfl rfl ?_
      refine m_geta C hκ 21 4 (by decide) rfl q1999 rfl dX7_againstItem_18 rfl ?_
      refine z_aload_n C 22 0 dX7_againstItem_21 rfl rfl ?_
      refine m_geta C hκ 25 28 (by decide) rfl q2023 rfl dX7_againstItem_22 rfl ?_
      refine z_iload_n C 26 1 dX7_againstItem_25 rfl rfl ?_
      refine m_iald (len := 80) C hκ hD 27 28 (by decide) rfl rfl (by omega) (by omega) dX7_againstItem_26 rfl ?_
      obtain ⟨f4a, f4b, f4c, f4d, f4e, f4f, f4g, f4h⟩ := hS.T (show 0 ≤ w 28 (x) by omega) (by omega)
      refine m_iald (len := 60) C hκ hD 28 4 (by decide) rfl rfl (by omega) (by omega) dX7_againstItem_27 rfl ?_
      refine z_bipush C 30 dX7_againstItem_28 (by decide) rfl ?_
      refine z_icmp_ge C 37 33 dX7_againstItem_30 (by decide) (hw.r _ _ rfl) ⟨by decide, by decide⟩ rfl (fun c5 => ?_) (fun c5 => ?_)
      · skip
        refine z_iconst C 38 dX7_againstItem_37 rfl ?_
        refine z_iload_n C 39 3 dX7_againstItem_38 rfl rfl ?_
        refine z_icmp_eq C 44 42 dX7_againstItem_39 (by decide) ⟨by decide, by decide⟩ (inR_b _) rfl (fun c6 => ?_) (fun c6 => ?_)
        · skip
          refine z_iload_n C 45 2 dX7_againstItem_44 rfl rfl ?_
          refine z_i2l C 46 dX7_againstItem_45 r_i rfl ?_
          refine z_lconst (x := 0) C 47 dX7_againstItem_46 rfl rfl ?_
          refine z_aload_n C 48 0 dX7_againstItem_47 rfl rfl ?_
          refine m_geta C hκ 51 29 (by decide) rfl q2024 rfl dX7_againstItem_48 rfl ?_
          refine z_iload_n C 52 1 dX7_againstItem_51 rfl rfl ?_
          refine m_iald (len := 80) C hκ hD 53 29 (by decide) rfl rfl (by omega) (by omega) dX7_againstItem_52 rfl ?_
          refine z_iconst C 54 dX7_againstItem_53 rfl ?_
          refine z_isub C 55 dX7_againstItem_54 rfl ?_
          refine z_i2l C 56 dX7_againstItem_55 ⟨by omega, by omega⟩ rfl ?_
          refine z_callSF (n' := 0) (k' := 0) (As := [.long (lI (i)), .long (lI (0)), .long (lI ((w 29 (x)) - (1)))]) (rest := []) C hκ hκl 59 (k7_in (i) (0) ((w 29 (x)) - (1)) (inR_L r_i) ⟨by decide, by decide⟩ ⟨by omega, by omega⟩) dX7_againstItem_56 q2164 q2165 q97 q2166 znX7_in (Nat.le_of_ble_eq_true rfl) (Nat.le_of_ble_eq_true rfl) (Nat.le_of_ble_eq_true rfl) (Nat.le_of_ble_eq_true rfl) rfl (Nat.le_of_ble_eq_true rfl) rfl rfl rfl ?_
          refine z_ifB_eq C 66 62 dX7_againstItem_59 (by decide) rfl (fun c7 => ?_) (fun c7 => ?_)
          · skip
            have c7b : ¬ (((0) ≤ (i) ∧ (i) ≤ ((w 29 (x)) - (1)))) := of_decide_eq_false c7
            refine z_iconst C 67 dX7_againstItem_66 rfl ?_
            exact z_iret C dX7_againstItem_67 rfl (Nat.le_of_ble_eq_true rfl) (Nat.le_of_ble_eq_true rfl) ⟨congrArg (fun z => some (Value.int (iI z))) (by clear C hκ hκl hS hB hB1 hB2 hB3 hB4 hB5 hB6 hC hD hw f2a f2b f2c f4a f4b f4c f4d f4e f4f f4g f4h; unfold aiI; cases p <;> (try simp only [bI, if_true, if_false, Bool.false_eq_true] at *) <;> (repeat' split) <;> first | rfl | omega | (rename_i h; simp at h; omega) | (rename_i h h2; simp at h h2; omega) | (exfalso; simp_all; done)), rfl⟩
          · skip
            have c7b : (((0) ≤ (i) ∧ (i) ≤ ((w 29 (x)) - (1)))) := of_decide_eq_true c7
            refine z_iconst C 63 dX7_againstItem_62 rfl ?_
            refine z_goto C 67 dX7_againstItem_63 (by decide) ?_
            exact z_iret C dX7_againstItem_67 rfl (Nat.le_of_ble_eq_true rfl) (Nat.le_of_ble_eq_true rfl) ⟨congrArg (fun z => some (Value.int (iI z))) (by clear C hκ hκl hS hB hB1 hB2 hB3 hB4 hB5 hB6 hC hD hw f2a f2b f2c f4a f4b f4c f4d f4e f4f f4g f4h; unfold aiI; cases p <;> (try simp only [bI, if_true, if_false, Bool.false_eq_true] at *) <;> (repeat' split) <;> first | rfl | omega | (rename_i h; simp at h; omega) | (rename_i h h2; simp at h h2; omega) | (exfalso; simp_all; done)), rfl⟩
        · skip
          refine z_iconst C 43 dX7_againstItem_42 rfl ?_
          exact z_iret C dX7_againstItem_43 rfl (Nat.le_of_ble_eq_true rfl) (Nat.le_of_ble_eq_true rfl) ⟨congrArg (fun z => some (Value.int (iI z))) (by clear C hκ hκl hS hB hB1 hB2 hB3 hB4 hB5 hB6 hC hD hw f2a f2b f2c f4a f4b f4c f4d f4e f4f f4g f4h; unfold aiI; cases p <;> (try simp only [bI, if_true, if_false, Bool.false_eq_true] at *) <;> (repeat' split) <;> first | rfl | omega | (rename_i h; simp at h; omega) | (rename_i h h2; simp at h h2; omega) | (exfalso; simp_all; done)), rfl⟩
      · skip
        refine z_iconst C 34 dX7_againstItem_33 rfl ?_
        refine z_goto C 38 dX7_againstItem_34 (by decide) ?_
        refine z_iload_n C 39 3 dX7_againstItem_38 rfl rfl ?_
        refine z_icmp_eq C 44 42 dX7_againstItem_39 (by decide) ⟨by decide, by decide⟩ (inR_b _) rfl (fun c8 => ?_) (fun c8 => ?_)
        · skip
          refine z_iload_n C 45 2 dX7_againstItem_44 rfl rfl ?_
          refine z_i2l C 46 dX7_againstItem_45 r_i rfl ?_
          refine z_lconst (x := 0) C 47 dX7_againstItem_46 rfl rfl ?_
          refine z_aload_n C 48 0 dX7_againstItem_47 rfl rfl ?_
          refine m_geta C hκ 51 29 (by decide) rfl q2024 rfl dX7_againstItem_48 rfl ?_
          refine z_iload_n C 52 1 dX7_againstItem_51 rfl rfl ?_
          refine m_iald (len := 80) C hκ hD 53 29 (by decide) rfl rfl (by omega) (by omega) dX7_againstItem_52 rfl ?_
          refine z_iconst C 54 dX7_againstItem_53 rfl ?_
          refine z_isub C 55 dX7_againstItem_54 rfl ?_
          refine z_i2l C 56 dX7_againstItem_55 ⟨by omega, by omega⟩ rfl ?_
          refine z_callSF (n' := 0) (k' := 0) (As := [.long (lI (i)), .long (lI (0)), .long (lI ((w 29 (x)) - (1)))]) (rest := []) C hκ hκl 59 (k7_in (i) (0) ((w 29 (x)) - (1)) (inR_L r_i) ⟨by decide, by decide⟩ ⟨by omega, by omega⟩) dX7_againstItem_56 q2164 q2165 q97 q2166 znX7_in (Nat.le_of_ble_eq_true rfl) (Nat.le_of_ble_eq_true rfl) (Nat.le_of_ble_eq_true rfl) (Nat.le_of_ble_eq_true rfl) rfl (Nat.le_of_ble_eq_true rfl) rfl rfl rfl ?_
          refine z_ifB_eq C 66 62 dX7_againstItem_59 (by decide) rfl (fun c9 => ?_) (fun c9 => ?_)
          · skip
            have c9b : ¬ (((0) ≤ (i) ∧ (i) ≤ ((w 29 (x)) - (1)))) := of_decide_eq_false c9
            refine z_iconst C 67 dX7_againstItem_66 rfl ?_
            exact z_iret C dX7_againstItem_67 rfl (Nat.le_of_ble_eq_true rfl) (Nat.le_of_ble_eq_true rfl) ⟨congrArg (fun z => some (Value.int (iI z))) (by clear C hκ hκl hS hB hB1 hB2 hB3 hB4 hB5 hB6 hC hD hw f2a f2b f2c f4a f4b f4c f4d f4e f4f f4g f4h; unfold aiI; cases p <;> (try simp only [bI, if_true, if_false, Bool.false_eq_true] at *) <;> (repeat' split) <;> first | rfl | omega | (rename_i h; simp at h; omega) | (rename_i h h2; simp at h h2; omega) | (exfalso; simp_all; done)), rfl⟩
          · skip
            have c9b : (((0) ≤ (i) ∧ (i) ≤ ((w 29 (x)) - (1)))) := of_decide_eq_true c9
            refine z_iconst C 63 dX7_againstItem_62 rfl ?_
            refine z_goto C 67 dX7_againstItem_63 (by decide) ?_
            exact z_iret C dX7_againstItem_67 rfl (Nat.le_of_ble_eq_true rfl) (Nat.le_of_ble_eq_true rfl) ⟨congrArg (fun z => some (Value.int (iI z))) (by clear C hκ hκl hS hB hB1 hB2 hB3 hB4 hB5 hB6 hC hD hw f2a f2b f2c f4a f4b f4c f4d f4e f4f f4g f4h; unfold aiI; cases p <;> (try simp only [bI, if_true, if_false, Bool.false_eq_true] at *) <;> (repeat' split) <;> first | rfl | omega | (rename_i h; simp at h; omega) | (rename_i h h2; simp at h h2; omega) | (exfalso; simp_all; done)), rfl⟩
        · skip
          refine z_iconst C 43 dX7_againstItem_42 rfl ?_
          exact z_iret C dX7_againstItem_43 rfl (Nat.le_of_ble_eq_true rfl) (Nat.le_of_ble_eq_true rfl) ⟨congrArg (fun z => some (Value.int (iI z))) (by clear C hκ hκl hS hB hB1 hB2 hB3 hB4 hB5 hB6 hC hD hw f2a f2b f2c f4a f4b f4c f4d f4e f4f f4g f4h; unfold aiI; cases p <;> (try simp only [bI, if_true, if_false, Bool.false_eq_true] at *) <;> (repeat' split) <;> first | rfl | omega | (rename_i h; simp at h; omega) | (rename_i h h2; simp at h h2; omega) | (exfalso; simp_all; done)), rfl⟩
  · skip
    refine z_iconst C 6 dX7_againstItem_5 rfl ?_
    exact z_iret C dX7_againstItem_6 rfl (Nat.le_of_ble_eq_true rfl) (Nat.le_of_ble_eq_true rfl) ⟨congrArg (fun z => some (Value.int (iI z))) (by clear C hκ hκl hS hB hB1 hB2 hB3 hB4 hB5 hB6 hC hD hw; unfold aiI; cases p <;> (try simp only [bI, if_true, if_false, Bool.false_eq_true] at *) <;> (repeat' split) <;> first | rfl | omega | (rename_i h; simp at h; omega) | (rename_i h h2; simp at h h2; omega) | (exfalso; simp_all; done)), rfl⟩
set_option maxRecDepth 100000 in
theorem k7_get {l : Launch} {θ : zTh} {N : zMap} {am : Nat} {ar : Nat → Nat} {w : mW} (hD : mDis am ar) (hw : mWF w) (f : Int) (x : Int) (a : Int) (s : Int) (r_f : inR f) (r_x : inR x) (r_a : inR a) (r_s : inR s) (hS : mS w) (hV : mV w) : ZF θ l yX7_get cX7_get 6 (some .int) ⟨3, 0, 0, 75⟩ [.ref (am), .int (iI (f)), .int (iI (x)), .int (iI (a)), .int (iI (s))] (mP θ am ar w N) (some (.int (iI (gtI w f x a s)))) (mP θ am ar (gtW w f x a s) N) := by
  refine z_start (own := RX7) (nm := "get") pnX7 rfl rfl (Nat.le_of_ble_eq_true rfl) ?_
  intro κ hκ hκl C
  change Z κ (mP θ am ar w N) 0 0 0 [(0, .ref (am)), (1, .int (iI (f))), (2, .int (iI (x))), (3, .int (iI (a))), (4, .int (iI (s)))] []
  have hB := hS.B
  obtain ⟨hB1, hB2, hB3, hB4, hB5, hB6⟩ := hS.B
  have hC := hS.C
  refine z_aload_n C 1 0 dX7_get_0 rfl rfl ?_
  refine z_iload_n C 2 1 dX7_get_1 rfl rfl ?_
  refine z_callVF (n' := 0) (k' := 0) (As := [.int (iI (f))]) (rest := []) C hκ hκl 5 (k7_isFieldAt hD hw (f) r_f hB) dX7_get_2 q2413 q2415 qs69 q97 q2416 znX7_isFieldAt (Nat.le_of_ble_eq_true rfl) (Nat.le_of_ble_eq_true rfl) (Nat.le_of_ble_eq_true rfl) (Nat.le_of_ble_eq_true rfl) mrec rfl rfl (Nat.le_of_ble_eq_true rfl) rfl rfl rfl ?_
  refine z_ifB_eq C 36 8 dX7_get_5 (by decide) rfl (fun c1 => ?_) (fun c1 => ?_)
  · skip
    have c1b : ¬ (0 ≤ (f) ∧ (f) < w 11 0 ∧ w 16 (f) = 1) := of_decide_eq_false c1
    refine z_iconst C 37 dX7_get_36 rfl ?_
    exact z_iret C dX7_get_37 rfl (Nat.le_of_ble_eq_true rfl) (Nat.le_of_ble_eq_true rfl) ⟨congrArg (fun z => some (Value.int (iI z))) (by clear C hκ hκl hS hB hB1 hB2 hB3 hB4 hB5 hB6 hC hD hw; unfold gtI; rw [if_pos]; unfold gtB; first | (simp_all; done) | grind), (congrArg (fun w' => mP θ am ar w' N) (by clear C hκ hκl hS hB hB1 hB2 hB3 hB4 hB5 hB6 hC hD hw; unfold gtW; rw [if_neg]; unfold gtB; first | (simp_all; done) | grind))⟩
  · skip
    have c1b : (0 ≤ (f) ∧ (f) < w 11 0 ∧ w 16 (f) = 1) := of_decide_eq_true c1
    refine z_aload_n C 9 0 dX7_get_8 rfl rfl ?_
    refine z_iload_n C 10 2 dX7_get_9 rfl rfl ?_
    refine z_callVF (n' := 0) (k' := 0) (As := [.int (iI (x))]) (rest := []) C hκ hκl 13 (k7_isThingOrNone hD hw (x) r_x hB) dX7_get_10 q2345 q2347 qs63 q97 q2348 znX7_isThingOrNone (Nat.le_of_ble_eq_true rfl) (Nat.le_of_ble_eq_true rfl) (Nat.le_of_ble_eq_true rfl) (Nat.le_of_ble_eq_true rfl) mrec rfl rfl (Nat.le_of_ble_eq_true rfl) rfl rfl rfl ?_
    refine z_ifB_eq C 36 16 dX7_get_13 (by decide) rfl (fun c2 => ?_) (fun c2 => ?_)
    · skip
      have c2b : ¬ ((x) = -1 ∨ (0 ≤ (x) ∧ (x) < w 27 0)) := of_decide_eq_false c2
      refine z_iconst C 37 dX7_get_36 rfl ?_
      exact z_iret C dX7_get_37 rfl (Nat.le_of_ble_eq_true rfl) (Nat.le_of_ble_eq_true rfl) ⟨congrArg (fun z => some (Value.int (iI z))) (by clear C hκ hκl hS hB hB1 hB2 hB3 hB4 hB5 hB6 hC hD hw; unfold gtI; rw [if_pos]; unfold gtB; first | (simp_all; done) | grind), (congrArg (fun w' => mP θ am ar w' N) (by clear C hκ hκl hS hB hB1 hB2 hB3 hB4 hB5 hB6 hC hD hw; unfold gtW; rw [if_neg]; unfold gtB; first | (simp_all; done) | grind))⟩
    · skip
      have c2b : ((x) = -1 ∨ (0 ≤ (x) ∧ (x) < w 27 0)) := of_decide_eq_true c2
      refine z_iload_n C 17 3 dX7_get_16 rfl rfl ?_
      refine z_i2l C 18 dX7_get_17 r_a rfl ?_
      refine z_lconst (x := 0) C 19 dX7_get_18 rfl rfl ?_
      refine z_ldc2 (z := 8) C 22 dX7_get_19 q2381 (by decide) rfl ?_
      refine z_callSF (n' := 0) (k' := 0) (As := [.long (lI (a)), .long (lI (0)), .long (lI (8))]) (rest := []) C hκ hκl 25 (k7_in (a) (0) (8) (inR_L r_a) ⟨by decide, by decide⟩ ⟨by decide, by decide⟩) dX7_get_22 q2164 q2165 q97 q2166 znX7_in (Nat.le_of_ble_eq_true rfl) (Nat.le_of_ble_eq_true rfl) (Nat.le_of_ble_eq_true rfl) (Nat.le_of_ble_eq_true rfl) rfl (Nat.le_of_ble_eq_true rfl) rfl rfl rfl ?_
      refine z_ifB_eq C 36 28 dX7_get_25 (by decide) rfl (fun c3 => ?_) (fun c3 => ?_)
      · skip
        have c3b : ¬ (((0) ≤ (a) ∧ (a) ≤ (8))) := of_decide_eq_false c3
        refine z_iconst C 37 dX7_get_36 rfl ?_
        exact z_iret C dX7_get_37 rfl (Nat.le_of_ble_eq_true rfl) (Nat.le_of_ble_eq_true rfl) ⟨congrArg (fun z => some (Value.int (iI z))) (by clear C hκ hκl hS hB hB1 hB2 hB3 hB4 hB5 hB6 hC hD hw; unfold gtI; rw [if_pos]; unfold gtB; first | (simp_all; done) | grind), (congrArg (fun w' => mP θ am ar w' N) (by clear C hκ hκl hS hB hB1 hB2 hB3 hB4 hB5 hB6 hC hD hw; unfold gtW; rw [if_neg]; unfold gtB; first | (simp_all; done) | grind))⟩
      · skip
        have c3b : (((0) ≤ (a) ∧ (a) ≤ (8))) := of_decide_eq_true c3
        refine z_iload C 30 4 dX7_get_28 rfl rfl ?_
        refine z_callSF (n' := 0) (k' := 0) (As := [.int (iI (s))]) (rest := []) C hκ hκl 33 (k7_isSlot (s) r_s) dX7_get_30 q2377 q2378 q97 q2379 znX7_isSlot (Nat.le_of_ble_eq_true rfl) (Nat.le_of_ble_eq_true rfl) (Nat.le_of_ble_eq_true rfl) (Nat.le_of_ble_eq_true rfl) rfl (Nat.le_of_ble_eq_true rfl) rfl rfl rfl ?_
        refine z_ifB_ne C 38 36 dX7_get_33 (by decide) rfl (fun c4 => ?_) (fun c4 => ?_)
        · skip
          have c4b : (0 ≤ (s) ∧ (s) < 8) := of_decide_eq_true c4
          refine z_aload_n C 39 0 dX7_get_38 rfl rfl ?_
          refine z_iload_n C 40 1 dX7_get_39 rfl rfl ?_
          refine z_iload_n C 41 2 dX7_get_40 rfl rfl ?_
          refine z_callVF (n' := 0) (k' := 0) (As := [.int (iI (f)), .int (iI (x))]) (rest := []) C hκ hκl 44 (k7_mayCaller hD hw (f) (x) r_f r_x hS (by omega) (by omega)) dX7_get_41 q2353 q2355 qs65 q97 q2356 znX7_mayCaller (Nat.le_of_ble_eq_true rfl) (Nat.le_of_ble_eq_true rfl) (Nat.le_of_ble_eq_true rfl) (Nat.le_of_ble_eq_true rfl) mrec rfl rfl (Nat.le_of_ble_eq_true rfl) rfl rfl rfl ?_
          refine z_ifB_ne C 52 47 dX7_get_44 (by decide) rfl (fun c5 => ?_) (fun c5 => ?_)
          · skip
            refine z_aload_n C 53 0 dX7_get_52 rfl rfl ?_
            refine z_iload_n C 54 1 dX7_get_53 rfl rfl ?_
            refine z_iload_n C 55 2 dX7_get_54 rfl rfl ?_
            refine z_callVF (n' := 0) (k' := 0) (As := [.int (iI (f)), .int (iI (x))]) (rest := []) C hκ hκl 58 (k7_against hD hw (f) (x) r_f r_x hS (by omega) (by omega)) dX7_get_55 q2417 q2419 qs70 q97 q2420 znX7_against (Nat.le_of_ble_eq_true rfl) (Nat.le_of_ble_eq_true rfl) (Nat.le_of_ble_eq_true rfl) (Nat.le_of_ble_eq_true rfl) mrec rfl rfl (Nat.le_of_ble_eq_true rfl) rfl rfl rfl ?_
            have h6 := agI_r (w := w) (m := f) (x := x)
            refine z_istore (lv' := [(0, .ref (am)), (1, .int (iI (f))), (2, .int (iI (x))), (3, .int (iI (a))), (4, .int (iI (s))), (5, .int (iI (agI w (f) (x))))]) C 60 [1, 2, 3, 4, 5, 0] dX7_get_58 (by decide) rfl rfl ?_
            refine z_iload C 62 5 dX7_get_60 rfl rfl ?_
            refine z_if_ne C 82 65 dX7_get_62 (by decide) ⟨by omega, by omega⟩ rfl (fun c7 => ?_) (fun c7 => ?_)
            · skip
              refine z_iload C 84 5 dX7_get_82 rfl rfl ?_
              refine z_istore (lv' := [(0, .ref (am)), (1, .int (iI (f))), (2, .int (iI (x))), (3, .int (iI (a))), (4, .int (iI (s))), (5, .int (iI (agI w (f) (x))))]) C 86 [1, 2, 3, 4, 5, 0] dX7_get_84 (by decide) rfl rfl ?_
              refine z_iload C 88 5 dX7_get_86 rfl rfl ?_
              refine z_if_le C 97 91 dX7_get_88 (by decide) ⟨by omega, by omega⟩ rfl (fun c8 => ?_) (fun c8 => ?_)
              · skip
                have hE : gtE w f x a = 0 := by clear C hκ hκl; unfold gtE; first | (simp_all; done) | grind
                have hag : agI w f x = 0 := by clear C hκ hκl; unfold gtE at hE; by_cases h : mcB w f x = true <;> simp_all <;> split at hE <;> simp_all
                have hfx : hasB w f 4 = false → 0 ≤ x ∧ x < w 27 0 := by intro h; rcases agI_0 hag with h2 | h2; rw [h] at h2; cases h2; omega
                have hft : ftB w (w 17 f) (fvL w f x) = true := by unfold fvL; by_cases h : hasB w f 4 = true; (rw [if_pos h]; exact hV.2.1 f (by omega) (by omega) (by omega)); (rw [if_neg h]; have := hfx (by simp_all); exact hV.2.2.1 x f (by omega) (by omega) (by omega) (by omega) (by omega))
                refine z_aload_n C 98 0 dX7_get_97 rfl rfl ?_
                refine z_iload C 100 4 dX7_get_98 rfl rfl ?_
                refine z_iload_n C 101 3 dX7_get_100 rfl rfl ?_
                refine z_aload_n C 102 0 dX7_get_101 rfl rfl ?_
                refine z_iload_n C 103 1 dX7_get_102 rfl rfl ?_
                refine z_iload_n C 104 2 dX7_get_103 rfl rfl ?_
                refine z_callVF (n' := 0) (k' := 0) (As := [.int (iI (f)), .int (iI (x))]) (rest := [.int (iI (a)), .int (iI (s)), .ref (am)]) C hκ hκl 107 (k7_fieldValue hD hw (f) (x) r_f r_x hS (by omega) hfx) dX7_get_104 q2424 q2426 qs71 q97 q2427 znX7_fieldValue (Nat.le_of_ble_eq_true rfl) (Nat.le_of_ble_eq_true rfl) (Nat.le_of_ble_eq_true rfl) (Nat.le_of_ble_eq_true rfl) mrec rfl rfl (Nat.le_of_ble_eq_true rfl) rfl rfl rfl ?_
                refine z_aload_n C 108 0 dX7_get_107 rfl rfl ?_
                refine m_geta C hκ 111 17 (by decide) rfl q2012 rfl dX7_get_108 rfl ?_
                refine z_iload_n C 112 1 dX7_get_111 rfl rfl ?_
                obtain ⟨f9a, f9b, f9c, f9d⟩ := hS.M (show 0 ≤ f by omega) (by omega)
                refine m_iald (len := 100) C hκ hD 113 17 (by decide) rfl rfl (by omega) (by omega) dX7_get_112 rfl ?_
                refine z_iload_n C 114 3 dX7_get_113 rfl rfl ?_
                refine z_callSF (n' := 0) (k' := 0) (As := [.long (lI (fvL w (f) (x))), .int (iI (w 17 (f))), .int (iI (a))]) (rest := [.int (iI (a)), .int (iI (s)), .ref (am)]) C hκ hκl 117 (k7_widened (fvL w (f) (x)) (w 17 (f)) (a) (by unfold fvL; split; exact hw.l _ _; exact hw.l _ _) (hw.r _ _ rfl) r_a (ft6 hft)) dX7_get_114 q2428 q2429 q97 q2430 znX7_widened (Nat.le_of_ble_eq_true rfl) (Nat.le_of_ble_eq_true rfl) (Nat.le_of_ble_eq_true rfl) (Nat.le_of_ble_eq_true rfl) rfl (Nat.le_of_ble_eq_true rfl) rfl rfl rfl ?_
                refine z_callVF0 (n' := 0) (k' := 0) (As := [.int (iI (s)), .int (iI (a)), .long (lI (wdL (fvL w (f) (x)) (w 17 (f)) (a)))]) (rest := []) C hκ hκl 120 (k7_lay hD hw (s) (a) (wdL (fvL w (f) (x)) (w 17 (f)) (a)) r_s r_a (wdL_L (fvL_L hw)) (by omega)) dX7_get_117 q2396 q2398 qs68 q97 q2399 znX7_lay (Nat.le_of_ble_eq_true rfl) (Nat.le_of_ble_eq_true rfl) (Nat.le_of_ble_eq_true rfl) (Nat.le_of_ble_eq_true rfl) mrec rfl rfl (Nat.le_of_ble_eq_true rfl) rfl rfl rfl ?_
                obtain ⟨w1, ew1⟩ : ∃ wz, layW w (s) (a) (wdL (fvL w (f) (x)) (w 17 (f)) (a)) = wz := ⟨_, rfl⟩
                rw [ew1]
                have hw1 : mWF w1 := ew1 ▸ ((hw.set r_a rfl).setL (wdL_L (fvL_L hw)) rfl rfl)
                refine z_iconst C 121 dX7_get_120 rfl ?_
                exact z_iret C dX7_get_121 rfl (Nat.le_of_ble_eq_true rfl) (Nat.le_of_ble_eq_true rfl) ⟨congrArg (fun z => some (Value.int (iI z))) (by unfold gtI; rw [if_neg (by clear C hκ hκl; unfold gtB; simp_all <;> omega), if_neg (by omega)]), (congrArg (fun w' => mP θ am ar w' N) (by unfold gtW; rw [if_pos (by clear C hκ hκl; unfold gtB; simp_all <;> omega)]; subst_vars; rfl))⟩
              · skip
                refine z_bipush C 93 dX7_get_91 (by decide) rfl ?_
                refine z_iload C 95 5 dX7_get_93 rfl rfl ?_
                refine z_isub C 96 dX7_get_95 rfl ?_
                exact z_iret C dX7_get_96 rfl (Nat.le_of_ble_eq_true rfl) (Nat.le_of_ble_eq_true rfl) ⟨congrArg (fun z => some (Value.int (iI z))) (by clear C hκ hκl hS hB hB1 hB2 hB3 hB4 hB5 hB6 hC hD hw; unfold gtI; have hB : gtB w f x a s = true := (by unfold gtB; simp_all <;> omega); have hE : True := trivial; rw [if_neg (by simp_all)]; unfold gtE; first | (simp_all; done) | grind), (congrArg (fun w' => mP θ am ar w' N) (by clear C hκ hκl hS hB hB1 hB2 hB3 hB4 hB5 hB6 hC hD hw; unfold gtW; rw [if_neg]; unfold gtE; first | (simp_all; done) | grind))⟩
            · skip
              refine z_aload_n C 66 0 dX7_get_65 rfl rfl ?_
              refine m_geta C hκ 69 17 (by decide) rfl q2012 rfl dX7_get_66 rfl ?_
              refine z_iload_n C 70 1 dX7_get_69 rfl rfl ?_
              obtain ⟨f10a, f10b, f10c, f10d⟩ := hS.M (show 0 ≤ f by omega) (by omega)
              refine m_iald (len := 100) C hκ hD 71 17 (by decide) rfl rfl (by omega) (by omega) dX7_get_70 rfl ?_
              refine z_iload_n C 72 3 dX7_get_71 rfl rfl ?_
              refine z_callSF (n' := 0) (k' := 0) (As := [.int (iI (w 17 (f))), .int (iI (a))]) (rest := []) C hκ hκl 75 (k7_mayTell (w 17 (f)) (a) (hw.r _ _ rfl) r_a) dX7_get_72 q2421 q2422 q97 q2423 znX7_mayTell (Nat.le_of_ble_eq_true rfl) (Nat.le_of_ble_eq_true rfl) (Nat.le_of_ble_eq_true rfl) (Nat.le_of_ble_eq_true rfl) rfl (Nat.le_of_ble_eq_true rfl) rfl rfl rfl ?_
              refine z_ifB_ne C 82 78 dX7_get_75 (by decide) rfl (fun c11 => ?_) (fun c11 => ?_)
              · skip
                refine z_iload C 84 5 dX7_get_82 rfl rfl ?_
                refine z_istore (lv' := [(0, .ref (am)), (1, .int (iI (f))), (2, .int (iI (x))), (3, .int (iI (a))), (4, .int (iI (s))), (5, .int (iI (agI w (f) (x))))]) C 86 [1, 2, 3, 4, 5, 0] dX7_get_84 (by decide) rfl rfl ?_
                refine z_iload C 88 5 dX7_get_86 rfl rfl ?_
                refine z_if_le C 97 91 dX7_get_88 (by decide) ⟨by omega, by omega⟩ rfl (fun c12 => ?_) (fun c12 => ?_)
                · skip
                  have hE : gtE w f x a = 0 := by clear C hκ hκl; unfold gtE; first | (simp_all; done) | grind
                  have hag : agI w f x = 0 := by clear C hκ hκl; unfold gtE at hE; by_cases h : mcB w f x = true <;> simp_all <;> split at hE <;> simp_all
                  have hfx : hasB w f 4 = false → 0 ≤ x ∧ x < w 27 0 := by intro h; rcases agI_0 hag with h2 | h2; rw [h] at h2; cases h2; omega
                  have hft : ftB w (w 17 f) (fvL w f x) = true := by unfold fvL; by_cases h : hasB w f 4 = true; (rw [if_pos h]; exact hV.2.1 f (by omega) (by omega) (by omega)); (rw [if_neg h]; have := hfx (by simp_all); exact hV.2.2.1 x f (by omega) (by omega) (by omega) (by omega) (by omega))
                  refine z_aload_n C 98 0 dX7_get_97 rfl rfl ?_
                  refine z_iload C 100 4 dX7_get_98 rfl rfl ?_
                  refine z_iload_n C 101 3 dX7_get_100 rfl rfl ?_
                  refine z_aload_n C 102 0 dX7_get_101 rfl rfl ?_
                  refine z_iload_n C 103 1 dX7_get_102 rfl rfl ?_
                  refine z_iload_n C 104 2 dX7_get_103 rfl rfl ?_
                  refine z_callVF (n' := 0) (k' := 0) (As := [.int (iI (f)), .int (iI (x))]) (rest := [.int (iI (a)), .int (iI (s)), .ref (am)]) C hκ hκl 107 (k7_fieldValue hD hw (f) (x) r_f r_x hS (by omega) hfx) dX7_get_104 q2424 q2426 qs71 q97 q2427 znX7_fieldValue (Nat.le_of_ble_eq_true rfl) (Nat.le_of_ble_eq_true rfl) (Nat.le_of_ble_eq_true rfl) (Nat.le_of_ble_eq_true rfl) mrec rfl rfl (Nat.le_of_ble_eq_true rfl) rfl rfl rfl ?_
                  refine z_aload_n C 108 0 dX7_get_107 rfl rfl ?_
                  refine m_geta C hκ 111 17 (by decide) rfl q2012 rfl dX7_get_108 rfl ?_
                  refine z_iload_n C 112 1 dX7_get_111 rfl rfl ?_
                  refine m_iald (len := 100) C hκ hD 113 17 (by decide) rfl rfl (by omega) (by omega) dX7_get_112 rfl ?_
                  refine z_iload_n C 114 3 dX7_get_113 rfl rfl ?_
                  refine z_callSF (n' := 0) (k' := 0) (As := [.long (lI (fvL w (f) (x))), .int (iI (w 17 (f))), .int (iI (a))]) (rest := [.int (iI (a)), .int (iI (s)), .ref (am)]) C hκ hκl 117 (k7_widened (fvL w (f) (x)) (w 17 (f)) (a) (by unfold fvL; split; exact hw.l _ _; exact hw.l _ _) (hw.r _ _ rfl) r_a (ft6 hft)) dX7_get_114 q2428 q2429 q97 q2430 znX7_widened (Nat.le_of_ble_eq_true rfl) (Nat.le_of_ble_eq_true rfl) (Nat.le_of_ble_eq_true rfl) (Nat.le_of_ble_eq_true rfl) rfl (Nat.le_of_ble_eq_true rfl) rfl rfl rfl ?_
                  refine z_callVF0 (n' := 0) (k' := 0) (As := [.int (iI (s)), .int (iI (a)), .long (lI (wdL (fvL w (f) (x)) (w 17 (f)) (a)))]) (rest := []) C hκ hκl 120 (k7_lay hD hw (s) (a) (wdL (fvL w (f) (x)) (w 17 (f)) (a)) r_s r_a (wdL_L (fvL_L hw)) (by omega)) dX7_get_117 q2396 q2398 qs68 q97 q2399 znX7_lay (Nat.le_of_ble_eq_true rfl) (Nat.le_of_ble_eq_true rfl) (Nat.le_of_ble_eq_true rfl) (Nat.le_of_ble_eq_true rfl) mrec rfl rfl (Nat.le_of_ble_eq_true rfl) rfl rfl rfl ?_
                  obtain ⟨w2, ew2⟩ : ∃ wz, layW w (s) (a) (wdL (fvL w (f) (x)) (w 17 (f)) (a)) = wz := ⟨_, rfl⟩
                  rw [ew2]
                  have hw2 : mWF w2 := ew2 ▸ ((hw.set r_a rfl).setL (wdL_L (fvL_L hw)) rfl rfl)
                  refine z_iconst C 121 dX7_get_120 rfl ?_
                  exact z_iret C dX7_get_121 rfl (Nat.le_of_ble_eq_true rfl) (Nat.le_of_ble_eq_true rfl) ⟨congrArg (fun z => some (Value.int (iI z))) (by unfold gtI; rw [if_neg (by clear C hκ hκl; unfold gtB; simp_all <;> omega), if_neg (by omega)]), (congrArg (fun w' => mP θ am ar w' N) (by unfold gtW; rw [if_pos (by clear C hκ hκl; unfold gtB; simp_all <;> omega)]; subst_vars; rfl))⟩
                · skip
                  refine z_bipush C 93 dX7_get_91 (by decide) rfl ?_
                  refine z_iload C 95 5 dX7_get_93 rfl rfl ?_
                  refine z_isub C 96 dX7_get_95 rfl ?_
                  exact z_iret C dX7_get_96 rfl (Nat.le_of_ble_eq_true rfl) (Nat.le_of_ble_eq_true rfl) ⟨congrArg (fun z => some (Value.int (iI z))) (by clear C hκ hκl hS hB hB1 hB2 hB3 hB4 hB5 hB6 hC hD hw f10a f10b f10c f10d; unfold gtI; have hB : gtB w f x a s = true := (by unfold gtB; simp_all <;> omega); have hE : True := trivial; rw [if_neg (by simp_all)]; unfold gtE; first | (simp_all; done) | grind), (congrArg (fun w' => mP θ am ar w' N) (by clear C hκ hκl hS hB hB1 hB2 hB3 hB4 hB5 hB6 hC hD hw f10a f10b f10c f10d; unfold gtW; rw [if_neg]; unfold gtE; first | (simp_all; done) | grind))⟩
              · skip
                refine z_iconst C 79 dX7_get_78 rfl ?_
                refine z_goto C 84 dX7_get_79 (by decide) ?_
                refine z_istore (lv' := [(0, .ref (am)), (1, .int (iI (f))), (2, .int (iI (x))), (3, .int (iI (a))), (4, .int (iI (s))), (5, .int (iI (2)))]) C 86 [1, 2, 3, 4, 5, 0] dX7_get_84 (by decide) rfl rfl ?_
                refine z_iload C 88 5 dX7_get_86 rfl rfl ?_
                refine z_if_le C 97 91 dX7_get_88 (by decide) ⟨by decide, by decide⟩ rfl (fun c13 => absurd c13 (by decide)) (fun c13 => ?_)
                refine z_bipush C 93 dX7_get_91 (by decide) rfl ?_
                refine z_iload C 95 5 dX7_get_93 rfl rfl ?_
                refine z_isub C 96 dX7_get_95 rfl ?_
                exact z_iret C dX7_get_96 rfl (Nat.le_of_ble_eq_true rfl) (Nat.le_of_ble_eq_true rfl) ⟨congrArg (fun z => some (Value.int (iI z))) (by clear C hκ hκl hS hB hB1 hB2 hB3 hB4 hB5 hB6 hC hD hw f10a f10b f10c f10d; unfold gtI; have hB : gtB w f x a s = true := (by unfold gtB; simp_all <;> omega); have hE : True := trivial; rw [if_neg (by simp_all)]; unfold gtE; first | (simp_all; done) | grind), (congrArg (fun w' => mP θ am ar w' N) (by clear C hκ hκl hS hB hB1 hB2 hB3 hB4 hB5 hB6 hC hD hw f10a f10b f10c f10d; unfold gtW; rw [if_neg]; unfold gtE; first | (simp_all; done) | grind))⟩
          · skip
            refine z_bipush C 49 dX7_get_47 (by decide) rfl ?_
            refine z_goto C 58 dX7_get_49 (by decide) ?_
            refine z_istore (lv' := [(0, .ref (am)), (1, .int (iI (f))), (2, .int (iI (x))), (3, .int (iI (a))), (4, .int (iI (s))), (5, .int (iI (6)))]) C 60 [1, 2, 3, 4, 5, 0] dX7_get_58 (by decide) rfl rfl ?_
            refine z_iload C 62 5 dX7_get_60 rfl rfl ?_
            refine z_if_ne C 82 65 dX7_get_62 (by decide) ⟨by decide, by decide⟩ rfl (fun c14 => ?_) (fun c14 => absurd c14 (by decide))
            refine z_iload C 84 5 dX7_get_82 rfl rfl ?_
            refine z_istore (lv' := [(0, .ref (am)), (1, .int (iI (f))), (2, .int (iI (x))), (3, .int (iI (a))), (4, .int (iI (s))), (5, .int (iI (6)))]) C 86 [1, 2, 3, 4, 5, 0] dX7_get_84 (by decide) rfl rfl ?_
            refine z_iload C 88 5 dX7_get_86 rfl rfl ?_
            refine z_if_le C 97 91 dX7_get_88 (by decide) ⟨by decide, by decide⟩ rfl (fun c15 => absurd c15 (by decide)) (fun c15 => ?_)
            refine z_bipush C 93 dX7_get_91 (by decide) rfl ?_
            refine z_iload C 95 5 dX7_get_93 rfl rfl ?_
            refine z_isub C 96 dX7_get_95 rfl ?_
            exact z_iret C dX7_get_96 rfl (Nat.le_of_ble_eq_true rfl) (Nat.le_of_ble_eq_true rfl) ⟨congrArg (fun z => some (Value.int (iI z))) (by clear C hκ hκl hS hB hB1 hB2 hB3 hB4 hB5 hB6 hC hD hw; unfold gtI; have hB : gtB w f x a s = true := (by unfold gtB; simp_all <;> omega); have hE : True := trivial; rw [if_neg (by simp_all)]; unfold gtE; first | (simp_all; done) | grind), (congrArg (fun w' => mP θ am ar w' N) (by clear C hκ hκl hS hB hB1 hB2 hB3 hB4 hB5 hB6 hC hD hw; unfold gtW; rw [if_neg]; unfold gtE; first | (simp_all; done) | grind))⟩
        · skip
          have c4b : ¬ (0 ≤ (s) ∧ (s) < 8) := of_decide_eq_false c4
          refine z_iconst C 37 dX7_get_36 rfl ?_
          exact z_iret C dX7_get_37 rfl (Nat.le_of_ble_eq_true rfl) (Nat.le_of_ble_eq_true rfl) ⟨congrArg (fun z => some (Value.int (iI z))) (by clear C hκ hκl hS hB hB1 hB2 hB3 hB4 hB5 hB6 hC hD hw; unfold gtI; rw [if_pos]; unfold gtB; first | (simp_all; done) | grind), (congrArg (fun w' => mP θ am ar w' N) (by clear C hκ hκl hS hB hB1 hB2 hB3 hB4 hB5 hB6 hC hD hw; unfold gtW; rw [if_neg]; unfold gtB; first | (simp_all; done) | grind))⟩
set_option maxRecDepth 100000 in
theorem k7_set {l : Launch} {θ : zTh} {N : zMap} {am : Nat} {ar : Nat → Nat} {w : mW} (hD : mDis am ar) (hw : mWF w) (f : Int) (x : Int) (s : Int) (r_f : inR f) (r_x : inR x) (r_s : inR s) (hS : mS w) (hV : mV w) : ZF θ l yX7_set cX7_set 6 (some .int) ⟨3, 0, 0, 75⟩ [.ref (am), .int (iI (f)), .int (iI (x)), .int (iI (s))] (mP θ am ar w N) (some (.int (iI (seI w f x s)))) (mP θ am ar (seW w f x s) N) := by
  refine z_start (own := RX7) (nm := "set") pnX7 rfl rfl (Nat.le_of_ble_eq_true rfl) ?_
  intro κ hκ hκl C
  change Z κ (mP θ am ar w N) 0 0 0 [(0, .ref (am)), (1, .int (iI (f))), (2, .int (iI (x))), (3, .int (iI (s)))] []
  have hB := hS.B
  obtain ⟨hB1, hB2, hB3, hB4, hB5, hB6⟩ := hS.B
  have hC := hS.C
  refine z_aload_n C 1 0 dX7_set_0 rfl rfl ?_
  refine z_iload_n C 2 1 dX7_set_1 rfl rfl ?_
  refine z_callVF (n' := 0) (k' := 0) (As := [.int (iI (f))]) (rest := []) C hκ hκl 5 (k7_isFieldAt hD hw (f) r_f hB) dX7_set_2 q2413 q2415 qs69 q97 q2416 znX7_isFieldAt (Nat.le_of_ble_eq_true rfl) (Nat.le_of_ble_eq_true rfl) (Nat.le_of_ble_eq_true rfl) (Nat.le_of_ble_eq_true rfl) mrec rfl rfl (Nat.le_of_ble_eq_true rfl) rfl rfl rfl ?_
  refine z_ifB_eq C 23 8 dX7_set_5 (by decide) rfl (fun c1 => ?_) (fun c1 => ?_)
  · skip
    have c1b : ¬ (0 ≤ (f) ∧ (f) < w 11 0 ∧ w 16 (f) = 1) := of_decide_eq_false c1
    refine z_iconst C 24 dX7_set_23 rfl ?_
    exact z_iret C dX7_set_24 rfl (Nat.le_of_ble_eq_true rfl) (Nat.le_of_ble_eq_true rfl) ⟨congrArg (fun z => some (Value.int (iI z))) (by clear C hκ hκl hS hB hB1 hB2 hB3 hB4 hB5 hB6 hC hD hw; unfold seI; rw [if_pos]; unfold seB; first | (simp_all; done) | grind), (congrArg (fun w' => mP θ am ar w' N) (by clear C hκ hκl hS hB hB1 hB2 hB3 hB4 hB5 hB6 hC hD hw; unfold seW; rw [if_neg]; unfold seB; first | (simp_all; done) | grind))⟩
  · skip
    have c1b : (0 ≤ (f) ∧ (f) < w 11 0 ∧ w 16 (f) = 1) := of_decide_eq_true c1
    refine z_aload_n C 9 0 dX7_set_8 rfl rfl ?_
    refine z_iload_n C 10 2 dX7_set_9 rfl rfl ?_
    refine z_callVF (n' := 0) (k' := 0) (As := [.int (iI (x))]) (rest := []) C hκ hκl 13 (k7_isThingOrNone hD hw (x) r_x hB) dX7_set_10 q2345 q2347 qs63 q97 q2348 znX7_isThingOrNone (Nat.le_of_ble_eq_true rfl) (Nat.le_of_ble_eq_true rfl) (Nat.le_of_ble_eq_true rfl) (Nat.le_of_ble_eq_true rfl) mrec rfl rfl (Nat.le_of_ble_eq_true rfl) rfl rfl rfl ?_
    refine z_ifB_eq C 23 16 dX7_set_13 (by decide) rfl (fun c2 => ?_) (fun c2 => ?_)
    · skip
      have c2b : ¬ ((x) = -1 ∨ (0 ≤ (x) ∧ (x) < w 27 0)) := of_decide_eq_false c2
      refine z_iconst C 24 dX7_set_23 rfl ?_
      exact z_iret C dX7_set_24 rfl (Nat.le_of_ble_eq_true rfl) (Nat.le_of_ble_eq_true rfl) ⟨congrArg (fun z => some (Value.int (iI z))) (by clear C hκ hκl hS hB hB1 hB2 hB3 hB4 hB5 hB6 hC hD hw; unfold seI; rw [if_pos]; unfold seB; first | (simp_all; done) | grind), (congrArg (fun w' => mP θ am ar w' N) (by clear C hκ hκl hS hB hB1 hB2 hB3 hB4 hB5 hB6 hC hD hw; unfold seW; rw [if_neg]; unfold seB; first | (simp_all; done) | grind))⟩
    · skip
      have c2b : ((x) = -1 ∨ (0 ≤ (x) ∧ (x) < w 27 0)) := of_decide_eq_true c2
      refine z_iload_n C 17 3 dX7_set_16 rfl rfl ?_
      refine z_callSF (n' := 0) (k' := 0) (As := [.int (iI (s))]) (rest := []) C hκ hκl 20 (k7_isSlot (s) r_s) dX7_set_17 q2377 q2378 q97 q2379 znX7_isSlot (Nat.le_of_ble_eq_true rfl) (Nat.le_of_ble_eq_true rfl) (Nat.le_of_ble_eq_true rfl) (Nat.le_of_ble_eq_true rfl) rfl (Nat.le_of_ble_eq_true rfl) rfl rfl rfl ?_
      refine z_ifB_ne C 25 23 dX7_set_20 (by decide) rfl (fun c3 => ?_) (fun c3 => ?_)
      · skip
        have c3b : (0 ≤ (s) ∧ (s) < 8) := of_decide_eq_true c3
        refine z_aload_n C 26 0 dX7_set_25 rfl rfl ?_
        refine z_iload_n C 27 1 dX7_set_26 rfl rfl ?_
        refine z_bipush C 29 dX7_set_27 (by decide) rfl ?_
        refine z_callVF (n' := 0) (k' := 0) (As := [.int (iI (f)), .int (iI (8))]) (rest := []) C hκ hκl 32 (k7_has hD hw (f) (8) r_f ⟨by decide, by decide⟩ (by omega)) dX7_set_29 q2271 q2273 qs53 q97 q2274 znX7_has (Nat.le_of_ble_eq_true rfl) (Nat.le_of_ble_eq_true rfl) (Nat.le_of_ble_eq_true rfl) (Nat.le_of_ble_eq_true rfl) mrec rfl rfl (Nat.le_of_ble_eq_true rfl) rfl rfl rfl ?_
        refine z_ifB_eq C 57 35 dX7_set_32 (by decide) rfl (fun c4 => ?_) (fun c4 => ?_)
        · skip
          refine z_iconst C 58 dX7_set_57 rfl ?_
          refine z_istore (lv' := [(0, .ref (am)), (1, .int (iI (f))), (2, .int (iI (x))), (3, .int (iI (s))), (4, .int (iI (0)))]) C 60 [1, 2, 3, 4, 0] dX7_set_58 (by decide) rfl rfl ?_
          refine z_iload C 62 4 dX7_set_60 rfl rfl ?_
          refine z_if_ne C 74 65 dX7_set_62 (by decide) ⟨by decide, by decide⟩ rfl (fun c5 => absurd c5 (by decide)) (fun c5 => ?_)
          refine z_aload_n C 66 0 dX7_set_65 rfl rfl ?_
          refine z_iload_n C 67 1 dX7_set_66 rfl rfl ?_
          refine z_iload_n C 68 2 dX7_set_67 rfl rfl ?_
          refine z_callVF (n' := 0) (k' := 0) (As := [.int (iI (f)), .int (iI (x))]) (rest := []) C hκ hκl 71 (k7_mayCaller hD hw (f) (x) r_f r_x hS (by omega) (by omega)) dX7_set_68 q2353 q2355 qs65 q97 q2356 znX7_mayCaller (Nat.le_of_ble_eq_true rfl) (Nat.le_of_ble_eq_true rfl) (Nat.le_of_ble_eq_true rfl) (Nat.le_of_ble_eq_true rfl) mrec rfl rfl (Nat.le_of_ble_eq_true rfl) rfl rfl rfl ?_
          refine z_ifB_ne C 79 74 dX7_set_71 (by decide) rfl (fun c6 => ?_) (fun c6 => ?_)
          · skip
            refine z_aload_n C 80 0 dX7_set_79 rfl rfl ?_
            refine z_iload_n C 81 1 dX7_set_80 rfl rfl ?_
            refine z_iload_n C 82 2 dX7_set_81 rfl rfl ?_
            refine z_callVF (n' := 0) (k' := 0) (As := [.int (iI (f)), .int (iI (x))]) (rest := []) C hκ hκl 85 (k7_against hD hw (f) (x) r_f r_x hS (by omega) (by omega)) dX7_set_82 q2417 q2419 qs70 q97 q2420 znX7_against (Nat.le_of_ble_eq_true rfl) (Nat.le_of_ble_eq_true rfl) (Nat.le_of_ble_eq_true rfl) (Nat.le_of_ble_eq_true rfl) mrec rfl rfl (Nat.le_of_ble_eq_true rfl) rfl rfl rfl ?_
            have h7 := agI_r (w := w) (m := f) (x := x)
            refine z_istore (lv' := [(0, .ref (am)), (1, .int (iI (f))), (2, .int (iI (x))), (3, .int (iI (s))), (4, .int (iI (0))), (5, .int (iI (agI w (f) (x))))]) C 87 [1, 2, 3, 4, 5, 0] dX7_set_85 (by decide) rfl rfl ?_
            refine z_iload C 89 5 dX7_set_87 rfl rfl ?_
            refine z_if_ne C 110 92 dX7_set_89 (by decide) ⟨by omega, by omega⟩ rfl (fun c8 => ?_) (fun c8 => ?_)
            · skip
              refine z_iload C 112 5 dX7_set_110 rfl rfl ?_
              refine z_istore (lv' := [(0, .ref (am)), (1, .int (iI (f))), (2, .int (iI (x))), (3, .int (iI (s))), (4, .int (iI (0))), (5, .int (iI (agI w (f) (x))))]) C 114 [1, 2, 3, 4, 5, 0] dX7_set_112 (by decide) rfl rfl ?_
              refine z_iload C 116 5 dX7_set_114 rfl rfl ?_
              refine z_if_le C 125 119 dX7_set_116 (by decide) ⟨by omega, by omega⟩ rfl (fun c9 => ?_) (fun c9 => ?_)
              · skip
                have hE : seE w f x s = 0 := by clear C hκ hκl; unfold seE shB; first | (simp_all; done) | grind
                have hag : agI w f x = 0 := by clear C hκ hκl; unfold seE at hE; by_cases h : (shB w f || !mcB w f x) = true <;> simp only [h, if_true, if_false, Bool.false_eq_true] at hE <;> split at hE <;> simp_all
                have hfx : hasB w f 4 = false → 0 ≤ x ∧ x < w 27 0 := by intro h; rcases agI_0 hag with h2 | h2; rw [h] at h2; cases h2; omega
                refine z_aload_n C 126 0 dX7_set_125 rfl rfl ?_
                refine z_iload_n C 127 1 dX7_set_126 rfl rfl ?_
                refine z_iload_n C 128 2 dX7_set_127 rfl rfl ?_
                refine z_aload_n C 129 0 dX7_set_128 rfl rfl ?_
                refine m_geta C hκ 132 33 (by decide) rfl q2028 rfl dX7_set_129 rfl ?_
                refine z_iload_n C 133 3 dX7_set_132 rfl rfl ?_
                obtain ⟨f10a, f10b⟩ := hS.L (show 0 ≤ s by omega) (by omega)
                refine m_lald (len := 8) C hκ hD 134 33 (by decide) rfl rfl (by omega) (by omega) dX7_set_133 rfl ?_
                refine z_aload_n C 135 0 dX7_set_134 rfl rfl ?_
                refine m_geta C hκ 138 32 (by decide) rfl q2027 rfl dX7_set_135 rfl ?_
                refine z_iload_n C 139 3 dX7_set_138 rfl rfl ?_
                refine m_iald (len := 8) C hκ hD 140 32 (by decide) rfl rfl (by omega) (by omega) dX7_set_139 rfl ?_
                refine z_aload_n C 141 0 dX7_set_140 rfl rfl ?_
                refine m_geta C hκ 144 17 (by decide) rfl q2012 rfl dX7_set_141 rfl ?_
                refine z_iload_n C 145 1 dX7_set_144 rfl rfl ?_
                obtain ⟨f11a, f11b, f11c, f11d⟩ := hS.M (show 0 ≤ f by omega) (by omega)
                refine m_iald (len := 100) C hκ hD 146 17 (by decide) rfl rfl (by omega) (by omega) dX7_set_145 rfl ?_
                refine z_callSF (n' := 0) (k' := 0) (As := [.long (lI (w 33 (s))), .int (iI (w 32 (s))), .int (iI (w 17 (f)))]) (rest := [.int (iI (x)), .int (iI (f)), .ref (am)]) C hκ hκl 149 (k7_widened (w 33 (s)) (w 32 (s)) (w 17 (f)) (hw.l _ _) (hw.r _ _ rfl) (hw.r _ _ rfl) (ft6 (hV.1 s (by omega) (by omega)))) dX7_set_146 q2428 q2429 q97 q2430 znX7_widened (Nat.le_of_ble_eq_true rfl) (Nat.le_of_ble_eq_true rfl) (Nat.le_of_ble_eq_true rfl) (Nat.le_of_ble_eq_true rfl) rfl (Nat.le_of_ble_eq_true rfl) rfl rfl rfl ?_
                refine z_callVF0 (n' := 0) (k' := 0) (As := [.int (iI (f)), .int (iI (x)), .long (lI (wdL (w 33 (s)) (w 32 (s)) (w 17 (f))))]) (rest := []) C hκ hκl 152 (k7_setField hD hw (f) (x) (wdL (w 33 (s)) (w 32 (s)) (w 17 (f))) r_f r_x (wdL_L (hw.l _ _)) hS (by omega) hfx) dX7_set_149 q2465 q2467 qs73 q97 q2468 znX7_setField (Nat.le_of_ble_eq_true rfl) (Nat.le_of_ble_eq_true rfl) (Nat.le_of_ble_eq_true rfl) (Nat.le_of_ble_eq_true rfl) mrec rfl rfl (Nat.le_of_ble_eq_true rfl) rfl rfl rfl ?_
                obtain ⟨w1, ew1⟩ : ∃ wz, sfW w (f) (x) (wdL (w 33 (s)) (w 32 (s)) (w 17 (f))) = wz := ⟨_, rfl⟩
                rw [ew1]
                have hw1 : mWF w1 := ew1 ▸ (sfW_wf hw (wdL_L (hw.l _ _)))
                refine z_iconst C 153 dX7_set_152 rfl ?_
                exact z_iret C dX7_set_153 rfl (Nat.le_of_ble_eq_true rfl) (Nat.le_of_ble_eq_true rfl) ⟨congrArg (fun z => some (Value.int (iI z))) (by unfold seI; rw [if_neg (by clear C hκ hκl; unfold seB; simp_all <;> omega), if_neg (by omega)]), (congrArg (fun w' => mP θ am ar w' N) (by unfold seW; rw [if_pos (by clear C hκ hκl; unfold seB; simp_all <;> omega)]; subst_vars; rfl))⟩
              · skip
                refine z_bipush C 121 dX7_set_119 (by decide) rfl ?_
                refine z_iload C 123 5 dX7_set_121 rfl rfl ?_
                refine z_isub C 124 dX7_set_123 rfl ?_
                exact z_iret C dX7_set_124 rfl (Nat.le_of_ble_eq_true rfl) (Nat.le_of_ble_eq_true rfl) ⟨congrArg (fun z => some (Value.int (iI z))) (by clear C hκ hκl hS hB hB1 hB2 hB3 hB4 hB5 hB6 hC hD hw; unfold seI; rw [if_neg (by unfold seB; simp_all <;> omega)]; unfold seE shB; first | (simp_all; done) | grind), (congrArg (fun w' => mP θ am ar w' N) (by clear C hκ hκl hS hB hB1 hB2 hB3 hB4 hB5 hB6 hC hD hw; unfold seW; rw [if_neg]; unfold seE shB; first | (simp_all; done) | grind))⟩
            · skip
              have h17 := hV.2.2.2.2 f (by omega) (by omega) (by omega)
              refine z_aload_n C 93 0 dX7_set_92 rfl rfl ?_
              refine z_iload_n C 94 3 dX7_set_93 rfl rfl ?_
              refine z_aload_n C 95 0 dX7_set_94 rfl rfl ?_
              refine m_geta C hκ 98 17 (by decide) rfl q2012 rfl dX7_set_95 rfl ?_
              refine z_iload_n C 99 1 dX7_set_98 rfl rfl ?_
              obtain ⟨f12a, f12b, f12c, f12d⟩ := hS.M (show 0 ≤ f by omega) (by omega)
              refine m_iald (len := 100) C hκ hD 100 17 (by decide) rfl rfl (by omega) (by omega) dX7_set_99 rfl ?_
              refine z_callVF (n' := 0) (k' := 0) (As := [.int (iI (s)), .int (iI (w 17 (f)))]) (rest := []) C hκ hκl 103 (k7_slotGoes hD hw (s) (w 17 (f)) r_s (hw.r _ _ rfl) hS (by omega) (by omega)) dX7_set_100 q2461 q2463 qs72 q97 q2464 znX7_slotGoes (Nat.le_of_ble_eq_true rfl) (Nat.le_of_ble_eq_true rfl) (Nat.le_of_ble_eq_true rfl) (Nat.le_of_ble_eq_true rfl) mrec rfl rfl (Nat.le_of_ble_eq_true rfl) rfl rfl rfl ?_
              refine z_ifB_ne C 110 106 dX7_set_103 (by decide) rfl (fun c13 => ?_) (fun c13 => ?_)
              · skip
                refine z_iload C 112 5 dX7_set_110 rfl rfl ?_
                refine z_istore (lv' := [(0, .ref (am)), (1, .int (iI (f))), (2, .int (iI (x))), (3, .int (iI (s))), (4, .int (iI (0))), (5, .int (iI (agI w (f) (x))))]) C 114 [1, 2, 3, 4, 5, 0] dX7_set_112 (by decide) rfl rfl ?_
                refine z_iload C 116 5 dX7_set_114 rfl rfl ?_
                refine z_if_le C 125 119 dX7_set_116 (by decide) ⟨by omega, by omega⟩ rfl (fun c14 => ?_) (fun c14 => ?_)
                · skip
                  have hE : seE w f x s = 0 := by clear C hκ hκl; unfold seE shB; first | (simp_all; done) | grind
                  have hag : agI w f x = 0 := by clear C hκ hκl; unfold seE at hE; by_cases h : (shB w f || !mcB w f x) = true <;> simp only [h, if_true, if_false, Bool.false_eq_true] at hE <;> split at hE <;> simp_all
                  have hfx : hasB w f 4 = false → 0 ≤ x ∧ x < w 27 0 := by intro h; rcases agI_0 hag with h2 | h2; rw [h] at h2; cases h2; omega
                  refine z_aload_n C 126 0 dX7_set_125 rfl rfl ?_
                  refine z_iload_n C 127 1 dX7_set_126 rfl rfl ?_
                  refine z_iload_n C 128 2 dX7_set_127 rfl rfl ?_
                  refine z_aload_n C 129 0 dX7_set_128 rfl rfl ?_
                  refine m_geta C hκ 132 33 (by decide) rfl q2028 rfl dX7_set_129 rfl ?_
                  refine z_iload_n C 133 3 dX7_set_132 rfl rfl ?_
                  obtain ⟨f15a, f15b⟩ := hS.L (show 0 ≤ s by omega) (by omega)
                  refine m_lald (len := 8) C hκ hD 134 33 (by decide) rfl rfl (by omega) (by omega) dX7_set_133 rfl ?_
                  refine z_aload_n C 135 0 dX7_set_134 rfl rfl ?_
                  refine m_geta C hκ 138 32 (by decide) rfl q2027 rfl dX7_set_135 rfl ?_
                  refine z_iload_n C 139 3 dX7_set_138 rfl rfl ?_
                  refine m_iald (len := 8) C hκ hD 140 32 (by decide) rfl rfl (by omega) (by omega) dX7_set_139 rfl ?_
                  refine z_aload_n C 141 0 dX7_set_140 rfl rfl ?_
                  refine m_geta C hκ 144 17 (by decide) rfl q2012 rfl dX7_set_141 rfl ?_
                  refine z_iload_n C 145 1 dX7_set_144 rfl rfl ?_
                  refine m_iald (len := 100) C hκ hD 146 17 (by decide) rfl rfl (by omega) (by omega) dX7_set_145 rfl ?_
                  refine z_callSF (n' := 0) (k' := 0) (As := [.long (lI (w 33 (s))), .int (iI (w 32 (s))), .int (iI (w 17 (f)))]) (rest := [.int (iI (x)), .int (iI (f)), .ref (am)]) C hκ hκl 149 (k7_widened (w 33 (s)) (w 32 (s)) (w 17 (f)) (hw.l _ _) (hw.r _ _ rfl) (hw.r _ _ rfl) (ft6 (hV.1 s (by omega) (by omega)))) dX7_set_146 q2428 q2429 q97 q2430 znX7_widened (Nat.le_of_ble_eq_true rfl) (Nat.le_of_ble_eq_true rfl) (Nat.le_of_ble_eq_true rfl) (Nat.le_of_ble_eq_true rfl) rfl (Nat.le_of_ble_eq_true rfl) rfl rfl rfl ?_
                  refine z_callVF0 (n' := 0) (k' := 0) (As := [.int (iI (f)), .int (iI (x)), .long (lI (wdL (w 33 (s)) (w 32 (s)) (w 17 (f))))]) (rest := []) C hκ hκl 152 (k7_setField hD hw (f) (x) (wdL (w 33 (s)) (w 32 (s)) (w 17 (f))) r_f r_x (wdL_L (hw.l _ _)) hS (by omega) hfx) dX7_set_149 q2465 q2467 qs73 q97 q2468 znX7_setField (Nat.le_of_ble_eq_true rfl) (Nat.le_of_ble_eq_true rfl) (Nat.le_of_ble_eq_true rfl) (Nat.le_of_ble_eq_true rfl) mrec rfl rfl (Nat.le_of_ble_eq_true rfl) rfl rfl rfl ?_
                  obtain ⟨w2, ew2⟩ : ∃ wz, sfW w (f) (x) (wdL (w 33 (s)) (w 32 (s)) (w 17 (f))) = wz := ⟨_, rfl⟩
                  rw [ew2]
                  have hw2 : mWF w2 := ew2 ▸ (sfW_wf hw (wdL_L (hw.l _ _)))
                  refine z_iconst C 153 dX7_set_152 rfl ?_
                  exact z_iret C dX7_set_153 rfl (Nat.le_of_ble_eq_true rfl) (Nat.le_of_ble_eq_true rfl) ⟨congrArg (fun z => some (Value.int (iI z))) (by unfold seI; rw [if_neg (by clear C hκ hκl; unfold seB; simp_all <;> omega), if_neg (by omega)]), (congrArg (fun w' => mP θ am ar w' N) (by unfold seW; rw [if_pos (by clear C hκ hκl; unfold seB; simp_all <;> omega)]; subst_vars; rfl))⟩
                · skip
                  refine z_bipush C 121 dX7_set_119 (by decide) rfl ?_
                  refine z_iload C 123 5 dX7_set_121 rfl rfl ?_
                  refine z_isub C 124 dX7_set_123 rfl ?_
                  exact z_iret C dX7_set_124 rfl (Nat.le_of_ble_eq_true rfl) (Nat.le_of_ble_eq_true rfl) ⟨congrArg (fun z => some (Value.int (iI z))) (by clear C hκ hκl hS hB hB1 hB2 hB3 hB4 hB5 hB6 hC hD hw f12a f12b f12c f12d; unfold seI; rw [if_neg (by unfold seB; simp_all <;> omega)]; unfold seE shB; first | (simp_all; done) | grind), (congrArg (fun w' => mP θ am ar w' N) (by clear C hκ hκl hS hB hB1 hB2 hB3 hB4 hB5 hB6 hC hD hw f12a f12b f12c f12d; unfold seW; rw [if_neg]; unfold seE shB; first | (simp_all; done) | grind))⟩
              · skip
                refine z_iconst C 107 dX7_set_106 rfl ?_
                refine z_goto C 112 dX7_set_107 (by decide) ?_
                refine z_istore (lv' := [(0, .ref (am)), (1, .int (iI (f))), (2, .int (iI (x))), (3, .int (iI (s))), (4, .int (iI (0))), (5, .int (iI (2)))]) C 114 [1, 2, 3, 4, 5, 0] dX7_set_112 (by decide) rfl rfl ?_
                refine z_iload C 116 5 dX7_set_114 rfl rfl ?_
                refine z_if_le C 125 119 dX7_set_116 (by decide) ⟨by decide, by decide⟩ rfl (fun c16 => absurd c16 (by decide)) (fun c16 => ?_)
                refine z_bipush C 121 dX7_set_119 (by decide) rfl ?_
                refine z_iload C 123 5 dX7_set_121 rfl rfl ?_
                refine z_isub C 124 dX7_set_123 rfl ?_
                exact z_iret C dX7_set_124 rfl (Nat.le_of_ble_eq_true rfl) (Nat.le_of_ble_eq_true rfl) ⟨congrArg (fun z => some (Value.int (iI z))) (by clear C hκ hκl hS hB hB1 hB2 hB3 hB4 hB5 hB6 hC hD hw f12a f12b f12c f12d; unfold seI; rw [if_neg (by unfold seB; simp_all <;> omega)]; unfold seE shB; first | (simp_all; done) | grind), (congrArg (fun w' => mP θ am ar w' N) (by clear C hκ hκl hS hB hB1 hB2 hB3 hB4 hB5 hB6 hC hD hw f12a f12b f12c f12d; unfold seW; rw [if_neg]; unfold seE shB; first | (simp_all; done) | grind))⟩
          · skip
            refine z_bipush C 76 dX7_set_74 (by decide) rfl ?_
            refine z_goto C 85 dX7_set_76 (by decide) ?_
            refine z_istore (lv' := [(0, .ref (am)), (1, .int (iI (f))), (2, .int (iI (x))), (3, .int (iI (s))), (4, .int (iI (0))), (5, .int (iI (6)))]) C 87 [1, 2, 3, 4, 5, 0] dX7_set_85 (by decide) rfl rfl ?_
            refine z_iload C 89 5 dX7_set_87 rfl rfl ?_
            refine z_if_ne C 110 92 dX7_set_89 (by decide) ⟨by decide, by decide⟩ rfl (fun c17 => ?_) (fun c17 => absurd c17 (by decide))
            refine z_iload C 112 5 dX7_set_110 rfl rfl ?_
            refine z_istore (lv' := [(0, .ref (am)), (1, .int (iI (f))), (2, .int (iI (x))), (3, .int (iI (s))), (4, .int (iI (0))), (5, .int (iI (6)))]) C 114 [1, 2, 3, 4, 5, 0] dX7_set_112 (by decide) rfl rfl ?_
            refine z_iload C 116 5 dX7_set_114 rfl rfl ?_
            refine z_if_le C 125 119 dX7_set_116 (by decide) ⟨by decide, by decide⟩ rfl (fun c18 => absurd c18 (by decide)) (fun c18 => ?_)
            refine z_bipush C 121 dX7_set_119 (by decide) rfl ?_
            refine z_iload C 123 5 dX7_set_121 rfl rfl ?_
            refine z_isub C 124 dX7_set_123 rfl ?_
            exact z_iret C dX7_set_124 rfl (Nat.le_of_ble_eq_true rfl) (Nat.le_of_ble_eq_true rfl) ⟨congrArg (fun z => some (Value.int (iI z))) (by clear C hκ hκl hS hB hB1 hB2 hB3 hB4 hB5 hB6 hC hD hw; unfold seI; rw [if_neg (by unfold seB; simp_all <;> omega)]; unfold seE shB; first | (simp_all; done) | grind), (congrArg (fun w' => mP θ am ar w' N) (by clear C hκ hκl hS hB hB1 hB2 hB3 hB4 hB5 hB6 hC hD hw; unfold seW; rw [if_neg]; unfold seE shB; first | (simp_all; done) | grind))⟩
        · skip
          refine z_aload_n C 36 0 dX7_set_35 rfl rfl ?_
          refine m_geta C hκ 39 20 (by decide) rfl q2015 rfl dX7_set_36 rfl ?_
          refine z_iload_n C 40 1 dX7_set_39 rfl rfl ?_
          obtain ⟨f19a, f19b, f19c, f19d⟩ := hS.M (show 0 ≤ f by omega) (by omega)
          refine m_bald (len := 100) C hκ hD hw 41 20 (by decide) rfl rfl rfl (by omega) (by omega) dX7_set_40 rfl ?_
          refine z_ifB_eq C 53 44 dX7_set_41 (by decide) rfl (fun c20 => ?_) (fun c20 => ?_)
          · skip
            have c20b : ¬ (w 20 (f) = 1) := of_decide_eq_false c20
            refine z_iconst C 54 dX7_set_53 rfl ?_
            refine z_goto C 58 dX7_set_54 (by decide) ?_
            refine z_istore (lv' := [(0, .ref (am)), (1, .int (iI (f))), (2, .int (iI (x))), (3, .int (iI (s))), (4, .int (iI (1)))]) C 60 [1, 2, 3, 4, 0] dX7_set_58 (by decide) rfl rfl ?_
            refine z_iload C 62 4 dX7_set_60 rfl rfl ?_
            refine z_if_ne C 74 65 dX7_set_62 (by decide) ⟨by decide, by decide⟩ rfl (fun c21 => ?_) (fun c21 => absurd c21 (by decide))
            refine z_bipush C 76 dX7_set_74 (by decide) rfl ?_
            refine z_goto C 85 dX7_set_76 (by decide) ?_
            refine z_istore (lv' := [(0, .ref (am)), (1, .int (iI (f))), (2, .int (iI (x))), (3, .int (iI (s))), (4, .int (iI (1))), (5, .int (iI (6)))]) C 87 [1, 2, 3, 4, 5, 0] dX7_set_85 (by decide) rfl rfl ?_
            refine z_iload C 89 5 dX7_set_87 rfl rfl ?_
            refine z_if_ne C 110 92 dX7_set_89 (by decide) ⟨by decide, by decide⟩ rfl (fun c22 => ?_) (fun c22 => absurd c22 (by decide))
            refine z_iload C 112 5 dX7_set_110 rfl rfl ?_
            refine z_istore (lv' := [(0, .ref (am)), (1, .int (iI (f))), (2, .int (iI (x))), (3, .int (iI (s))), (4, .int (iI (1))), (5, .int (iI (6)))]) C 114 [1, 2, 3, 4, 5, 0] dX7_set_112 (by decide) rfl rfl ?_
            refine z_iload C 116 5 dX7_set_114 rfl rfl ?_
            refine z_if_le C 125 119 dX7_set_116 (by decide) ⟨by decide, by decide⟩ rfl (fun c23 => absurd c23 (by decide)) (fun c23 => ?_)
            refine z_bipush C 121 dX7_set_119 (by decide) rfl ?_
            refine z_iload C 123 5 dX7_set_121 rfl rfl ?_
            refine z_isub C 124 dX7_set_123 rfl ?_
            exact z_iret C dX7_set_124 rfl (Nat.le_of_ble_eq_true rfl) (Nat.le_of_ble_eq_true rfl) ⟨congrArg (fun z => some (Value.int (iI z))) (by clear C hκ hκl hS hB hB1 hB2 hB3 hB4 hB5 hB6 hC hD hw f19a f19b f19c f19d; unfold seI; rw [if_neg (by unfold seB; simp_all <;> omega)]; unfold seE shB; first | (simp_all; done) | grind), (congrArg (fun w' => mP θ am ar w' N) (by clear C hκ hκl hS hB hB1 hB2 hB3 hB4 hB5 hB6 hC hD hw f19a f19b f19c f19d; unfold seW; rw [if_neg]; unfold seE shB; first | (simp_all; done) | grind))⟩
          · skip
            have c20b : (w 20 (f) = 1) := of_decide_eq_true c20
            refine z_aload_n C 45 0 dX7_set_44 rfl rfl ?_
            refine z_iload_n C 46 1 dX7_set_45 rfl rfl ?_
            refine z_iconst C 47 dX7_set_46 rfl ?_
            refine z_callVF (n' := 0) (k' := 0) (As := [.int (iI (f)), .int (iI (4))]) (rest := []) C hκ hκl 50 (k7_has hD hw (f) (4) r_f ⟨by decide, by decide⟩ (by omega)) dX7_set_47 q2271 q2273 qs53 q97 q2274 znX7_has (Nat.le_of_ble_eq_true rfl) (Nat.le_of_ble_eq_true rfl) (Nat.le_of_ble_eq_true rfl) (Nat.le_of_ble_eq_true rfl) mrec rfl rfl (Nat.le_of_ble_eq_true rfl) rfl rfl rfl ?_
            refine z_ifB_eq C 57 53 dX7_set_50 (by decide) rfl (fun c24 => ?_) (fun c24 => ?_)
            · skip
              refine z_iconst C 58 dX7_set_57 rfl ?_
              refine z_istore (lv' := [(0, .ref (am)), (1, .int (iI (f))), (2, .int (iI (x))), (3, .int (iI (s))), (4, .int (iI (0)))]) C 60 [1, 2, 3, 4, 0] dX7_set_58 (by decide) rfl rfl ?_
              refine z_iload C 62 4 dX7_set_60 rfl rfl ?_
              refine z_if_ne C 74 65 dX7_set_62 (by decide) ⟨by decide, by decide⟩ rfl (fun c25 => absurd c25 (by decide)) (fun c25 => ?_)
              refine z_aload_n C 66 0 dX7_set_65 rfl rfl ?_
              refine z_iload_n C 67 1 dX7_set_66 rfl rfl ?_
              refine z_iload_n C 68 2 dX7_set_67 rfl rfl ?_
              refine z_callVF (n' := 0) (k' := 0) (As := [.int (iI (f)), .int (iI (x))]) (rest := []) C hκ hκl 71 (k7_mayCaller hD hw (f) (x) r_f r_x hS (by omega) (by omega)) dX7_set_68 q2353 q2355 qs65 q97 q2356 znX7_mayCaller (Nat.le_of_ble_eq_true rfl) (Nat.le_of_ble_eq_true rfl) (Nat.le_of_ble_eq_true rfl) (Nat.le_of_ble_eq_true rfl) mrec rfl rfl (Nat.le_of_ble_eq_true rfl) rfl rfl rfl ?_
              refine z_ifB_ne C 79 74 dX7_set_71 (by decide) rfl (fun c26 => ?_) (fun c26 => ?_)
              · skip
                refine z_aload_n C 80 0 dX7_set_79 rfl rfl ?_
                refine z_iload_n C 81 1 dX7_set_80 rfl rfl ?_
                refine z_iload_n C 82 2 dX7_set_81 rfl rfl ?_
                refine z_callVF (n' := 0) (k' := 0) (As := [.int (iI (f)), .int (iI (x))]) (rest := []) C hκ hκl 85 (k7_against hD hw (f) (x) r_f r_x hS (by omega) (by omega)) dX7_set_82 q2417 q2419 qs70 q97 q2420 znX7_against (Nat.le_of_ble_eq_true rfl) (Nat.le_of_ble_eq_true rfl) (Nat.le_of_ble_eq_true rfl) (Nat.le_of_ble_eq_true rfl) mrec rfl rfl (Nat.le_of_ble_eq_true rfl) rfl rfl rfl ?_
                have h27 := agI_r (w := w) (m := f) (x := x)
                refine z_istore (lv' := [(0, .ref (am)), (1, .int (iI (f))), (2, .int (iI (x))), (3, .int (iI (s))), (4, .int (iI (0))), (5, .int (iI (agI w (f) (x))))]) C 87 [1, 2, 3, 4, 5, 0] dX7_set_85 (by decide) rfl rfl ?_
                refine z_iload C 89 5 dX7_set_87 rfl rfl ?_
                refine z_if_ne C 110 92 dX7_set_89 (by decide) ⟨by omega, by omega⟩ rfl (fun c28 => ?_) (fun c28 => ?_)
                · skip
                  refine z_iload C 112 5 dX7_set_110 rfl rfl ?_
                  refine z_istore (lv' := [(0, .ref (am)), (1, .int (iI (f))), (2, .int (iI (x))), (3, .int (iI (s))), (4, .int (iI (0))), (5, .int (iI (agI w (f) (x))))]) C 114 [1, 2, 3, 4, 5, 0] dX7_set_112 (by decide) rfl rfl ?_
                  refine z_iload C 116 5 dX7_set_114 rfl rfl ?_
                  refine z_if_le C 125 119 dX7_set_116 (by decide) ⟨by omega, by omega⟩ rfl (fun c29 => ?_) (fun c29 => ?_)
                  · skip
                    have hE : seE w f x s = 0 := by clear C hκ hκl; unfold seE shB; first | (simp_all; done) | grind
                    have hag : agI w f x = 0 := by clear C hκ hκl; unfold seE at hE; by_cases h : (shB w f || !mcB w f x) = true <;> simp only [h, if_true, if_false, Bool.false_eq_true] at hE <;> split at hE <;> simp_all
                    have hfx : hasB w f 4 = false → 0 ≤ x ∧ x < w 27 0 := by intro h; rcases agI_0 hag with h2 | h2; rw [h] at h2; cases h2; omega
                    refine z_aload_n C 126 0 dX7_set_125 rfl rfl ?_
                    refine z_iload_n C 127 1 dX7_set_126 rfl rfl ?_
                    refine z_iload_n C 128 2 dX7_set_127 rfl rfl ?_
                    refine z_aload_n C 129 0 dX7_set_128 rfl rfl ?_
                    refine m_geta C hκ 132 33 (by decide) rfl q2028 rfl dX7_set_129 rfl ?_
                    refine z_iload_n C 133 3 dX7_set_132 rfl rfl ?_
                    obtain ⟨f30a, f30b⟩ := hS.L (show 0 ≤ s by omega) (by omega)
                    refine m_lald (len := 8) C hκ hD 134 33 (by decide) rfl rfl (by omega) (by omega) dX7_set_133 rfl ?_
                    refine z_aload_n C 135 0 dX7_set_134 rfl rfl ?_
                    refine m_geta C hκ 138 32 (by decide) rfl q2027 rfl dX7_set_135 rfl ?_
                    refine z_iload_n C 139 3 dX7_set_138 rfl rfl ?_
                    refine m_iald (len := 8) C hκ hD 140 32 (by decide) rfl rfl (by omega) (by omega) dX7_set_139 rfl ?_
                    refine z_aload_n C 141 0 dX7_set_140 rfl rfl ?_
                    refine m_geta C hκ 144 17 (by decide) rfl q2012 rfl dX7_set_141 rfl ?_
                    refine z_iload_n C 145 1 dX7_set_144 rfl rfl ?_
                    refine m_iald (len := 100) C hκ hD 146 17 (by decide) rfl rfl (by omega) (by omega) dX7_set_145 rfl ?_
                    refine z_callSF (n' := 0) (k' := 0) (As := [.long (lI (w 33 (s))), .int (iI (w 32 (s))), .int (iI (w 17 (f)))]) (rest := [.int (iI (x)), .int (iI (f)), .ref (am)]) C hκ hκl 149 (k7_widened (w 33 (s)) (w 32 (s)) (w 17 (f)) (hw.l _ _) (hw.r _ _ rfl) (hw.r _ _ rfl) (ft6 (hV.1 s (by omega) (by omega)))) dX7_set_146 q2428 q2429 q97 q2430 znX7_widened (Nat.le_of_ble_eq_true rfl) (Nat.le_of_ble_eq_true rfl) (Nat.le_of_ble_eq_true rfl) (Nat.le_of_ble_eq_true rfl) rfl (Nat.le_of_ble_eq_true rfl) rfl rfl rfl ?_
                    refine z_callVF0 (n' := 0) (k' := 0) (As := [.int (iI (f)), .int (iI (x)), .long (lI (wdL (w 33 (s)) (w 32 (s)) (w 17 (f))))]) (rest := []) C hκ hκl 152 (k7_setField hD hw (f) (x) (wdL (w 33 (s)) (w 32 (s)) (w 17 (f))) r_f r_x (wdL_L (hw.l _ _)) hS (by omega) hfx) dX7_set_149 q2465 q2467 qs73 q97 q2468 znX7_setField (Nat.le_of_ble_eq_true rfl) (Nat.le_of_ble_eq_true rfl) (Nat.le_of_ble_eq_true rfl) (Nat.le_of_ble_eq_true rfl) mrec rfl rfl (Nat.le_of_ble_eq_true rfl) rfl rfl rfl ?_
                    obtain ⟨w3, ew3⟩ : ∃ wz, sfW w (f) (x) (wdL (w 33 (s)) (w 32 (s)) (w 17 (f))) = wz := ⟨_, rfl⟩
                    rw [ew3]
                    have hw3 : mWF w3 := ew3 ▸ (sfW_wf hw (wdL_L (hw.l _ _)))
                    refine z_iconst C 153 dX7_set_152 rfl ?_
                    exact z_iret C dX7_set_153 rfl (Nat.le_of_ble_eq_true rfl) (Nat.le_of_ble_eq_true rfl) ⟨congrArg (fun z => some (Value.int (iI z))) (by unfold seI; rw [if_neg (by clear C hκ hκl; unfold seB; simp_all <;> omega), if_neg (by omega)]), (congrArg (fun w' => mP θ am ar w' N) (by unfold seW; rw [if_pos (by clear C hκ hκl; unfold seB; simp_all <;> omega)]; subst_vars; rfl))⟩
                  · skip
                    refine z_bipush C 121 dX7_set_119 (by decide) rfl ?_
                    refine z_iload C 123 5 dX7_set_121 rfl rfl ?_
                    refine z_isub C 124 dX7_set_123 rfl ?_
                    exact z_iret C dX7_set_124 rfl (Nat.le_of_ble_eq_true rfl) (Nat.le_of_ble_eq_true rfl) ⟨congrArg (fun z => some (Value.int (iI z))) (by clear C hκ hκl hS hB hB1 hB2 hB3 hB4 hB5 hB6 hC hD hw f19a f19b f19c f19d; unfold seI; rw [if_neg (by unfold seB; simp_all <;> omega)]; unfold seE shB; first | (simp_all; done) | grind), (congrArg (fun w' => mP θ am ar w' N) (by clear C hκ hκl hS hB hB1 hB2 hB3 hB4 hB5 hB6 hC hD hw f19a f19b f19c f19d; unfold seW; rw [if_neg]; unfold seE shB; first | (simp_all; done) | grind))⟩
                · skip
                  have h17 := hV.2.2.2.2 f (by omega) (by omega) (by omega)
                  refine z_aload_n C 93 0 dX7_set_92 rfl rfl ?_
                  refine z_iload_n C 94 3 dX7_set_93 rfl rfl ?_
                  refine z_aload_n C 95 0 dX7_set_94 rfl rfl ?_
                  refine m_geta C hκ 98 17 (by decide) rfl q2012 rfl dX7_set_95 rfl ?_
                  refine z_iload_n C 99 1 dX7_set_98 rfl rfl ?_
                  refine m_iald (len := 100) C hκ hD 100 17 (by decide) rfl rfl (by omega) (by omega) dX7_set_99 rfl ?_
                  refine z_callVF (n' := 0) (k' := 0) (As := [.int (iI (s)), .int (iI (w 17 (f)))]) (rest := []) C hκ hκl 103 (k7_slotGoes hD hw (s) (w 17 (f)) r_s (hw.r _ _ rfl) hS (by omega) (by omega)) dX7_set_100 q2461 q2463 qs72 q97 q2464 znX7_slotGoes (Nat.le_of_ble_eq_true rfl) (Nat.le_of_ble_eq_true rfl) (Nat.le_of_ble_eq_true rfl) (Nat.le_of_ble_eq_true rfl) mrec rfl rfl (Nat.le_of_ble_eq_true rfl) rfl rfl rfl ?_
                  refine z_ifB_ne C 110 106 dX7_set_103 (by decide) rfl (fun c31 => ?_) (fun c31 => ?_)
                  · skip
                    refine z_iload C 112 5 dX7_set_110 rfl rfl ?_
                    refine z_istore (lv' := [(0, .ref (am)), (1, .int (iI (f))), (2, .int (iI (x))), (3, .int (iI (s))), (4, .int (iI (0))), (5, .int (iI (agI w (f) (x))))]) C 114 [1, 2, 3, 4, 5, 0] dX7_set_112 (by decide) rfl rfl ?_
                    refine z_iload C 116 5 dX7_set_114 rfl rfl ?_
                    refine z_if_le C 125 119 dX7_set_116 (by decide) ⟨by omega, by omega⟩ rfl (fun c32 => ?_) (fun c32 => ?_)
                    · skip
                      have hE : seE w f x s = 0 := by clear C hκ hκl; unfold seE shB; first | (simp_all; done) | grind
                      have hag : agI w f x = 0 := by clear C hκ hκl; unfold seE at hE; by_cases h : (shB w f || !mcB w f x) = true <;> simp only [h, if_true, if_false, Bool.false_eq_true] at hE <;> split at hE <;> simp_all
                      have hfx : hasB w f 4 = false → 0 ≤ x ∧ x < w 27 0 := by intro h; rcases agI_0 hag with h2 | h2; rw [h] at h2; cases h2; omega
                      refine z_aload_n C 126 0 dX7_set_125 rfl rfl ?_
                      refine z_iload_n C 127 1 dX7_set_126 rfl rfl ?_
                      refine z_iload_n C 128 2 dX7_set_127 rfl rfl ?_
                      refine z_aload_n C 129 0 dX7_set_128 rfl rfl ?_
                      refine m_geta C hκ 132 33 (by decide) rfl q2028 rfl dX7_set_129 rfl ?_
                      refine z_iload_n C 133 3 dX7_set_132 rfl rfl ?_
                      obtain ⟨f33a, f33b⟩ := hS.L (show 0 ≤ s by omega) (by omega)
                      refine m_lald (len := 8) C hκ hD 134 33 (by decide) rfl rfl (by omega) (by omega) dX7_set_133 rfl ?_
                      refine z_aload_n C 135 0 dX7_set_134 rfl rfl ?_
                      refine m_geta C hκ 138 32 (by decide) rfl q2027 rfl dX7_set_135 rfl ?_
                      refine z_iload_n C 139 3 dX7_set_138 rfl rfl ?_
                      refine m_iald (len := 8) C hκ hD 140 32 (by decide) rfl rfl (by omega) (by omega) dX7_set_139 rfl ?_
                      refine z_aload_n C 141 0 dX7_set_140 rfl rfl ?_
                      refine m_geta C hκ 144 17 (by decide) rfl q2012 rfl dX7_set_141 rfl ?_
                      refine z_iload_n C 145 1 dX7_set_144 rfl rfl ?_
                      refine m_iald (len := 100) C hκ hD 146 17 (by decide) rfl rfl (by omega) (by omega) dX7_set_145 rfl ?_
                      refine z_callSF (n' := 0) (k' := 0) (As := [.long (lI (w 33 (s))), .int (iI (w 32 (s))), .int (iI (w 17 (f)))]) (rest := [.int (iI (x)), .int (iI (f)), .ref (am)]) C hκ hκl 149 (k7_widened (w 33 (s)) (w 32 (s)) (w 17 (f)) (hw.l _ _) (hw.r _ _ rfl) (hw.r _ _ rfl) (ft6 (hV.1 s (by omega) (by omega)))) dX7_set_146 q2428 q2429 q97 q2430 znX7_widened (Nat.le_of_ble_eq_true rfl) (Nat.le_of_ble_eq_true rfl) (Nat.le_of_ble_eq_true rfl) (Nat.le_of_ble_eq_true rfl) rfl (Nat.le_of_ble_eq_true rfl) rfl rfl rfl ?_
                      refine z_callVF0 (n' := 0) (k' := 0) (As := [.int (iI (f)), .int (iI (x)), .long (lI (wdL (w 33 (s)) (w 32 (s)) (w 17 (f))))]) (rest := []) C hκ hκl 152 (k7_setField hD hw (f) (x) (wdL (w 33 (s)) (w 32 (s)) (w 17 (f))) r_f r_x (wdL_L (hw.l _ _)) hS (by omega) hfx) dX7_set_149 q2465 q2467 qs73 q97 q2468 znX7_setField (Nat.le_of_ble_eq_true rfl) (Nat.le_of_ble_eq_true rfl) (Nat.le_of_ble_eq_true rfl) (Nat.le_of_ble_eq_true rfl) mrec rfl rfl (Nat.le_of_ble_eq_true rfl) rfl rfl rfl ?_
                      obtain ⟨w4, ew4⟩ : ∃ wz, sfW w (f) (x) (wdL (w 33 (s)) (w 32 (s)) (w 17 (f))) = wz := ⟨_, rfl⟩
                      rw [ew4]
                      have hw4 : mWF w4 := ew4 ▸ (sfW_wf hw (wdL_L (hw.l _ _)))
                      refine z_iconst C 153 dX7_set_152 rfl ?_
                      exact z_iret C dX7_set_153 rfl (Nat.le_of_ble_eq_true rfl) (Nat.le_of_ble_eq_true rfl) ⟨congrArg (fun z => some (Value.int (iI z))) (by unfold seI; rw [if_neg (by clear C hκ hκl; unfold seB; simp_all <;> omega), if_neg (by omega)]), (congrArg (fun w' => mP θ am ar w' N) (by unfold seW; rw [if_pos (by clear C hκ hκl; unfold seB; simp_all <;> omega)]; subst_vars; rfl))⟩
                    · skip
                      refine z_bipush C 121 dX7_set_119 (by decide) rfl ?_
                      refine z_iload C 123 5 dX7_set_121 rfl rfl ?_
                      refine z_isub C 124 dX7_set_123 rfl ?_
                      exact z_iret C dX7_set_124 rfl (Nat.le_of_ble_eq_true rfl) (Nat.le_of_ble_eq_true rfl) ⟨congrArg (fun z => some (Value.int (iI z))) (by clear C hκ hκl hS hB hB1 hB2 hB3 hB4 hB5 hB6 hC hD hw f19a f19b f19c f19d; unfold seI; rw [if_neg (by unfold seB; simp_all <;> omega)]; unfold seE shB; first | (simp_all; done) | grind), (congrArg (fun w' => mP θ am ar w' N) (by clear C hκ hκl hS hB hB1 hB2 hB3 hB4 hB5 hB6 hC hD hw f19a f19b f19c f19d; unfold seW; rw [if_neg]; unfold seE shB; first | (simp_all; done) | grind))⟩
                  · skip
                    refine z_iconst C 107 dX7_set_106 rfl ?_
                    refine z_goto C 112 dX7_set_107 (by decide) ?_
                    refine z_istore (lv' := [(0, .ref (am)), (1, .int (iI (f))), (2, .int (iI (x))), (3, .int (iI (s))), (4, .int (iI (0))), (5, .int (iI (2)))]) C 114 [1, 2, 3, 4, 5, 0] dX7_set_112 (by decide) rfl rfl ?_
                    refine z_iload C 116 5 dX7_set_114 rfl rfl ?_
                    refine z_if_le C 125 119 dX7_set_116 (by decide) ⟨by decide, by decide⟩ rfl (fun c34 => absurd c34 (by decide)) (fun c34 => ?_)
                    refine z_bipush C 121 dX7_set_119 (by decide) rfl ?_
                    refine z_iload C 123 5 dX7_set_121 rfl rfl ?_
                    refine z_isub C 124 dX7_set_123 rfl ?_
                    exact z_iret C dX7_set_124 rfl (Nat.le_of_ble_eq_true rfl) (Nat.le_of_ble_eq_true rfl) ⟨congrArg (fun z => some (Value.int (iI z))) (by clear C hκ hκl hS hB hB1 hB2 hB3 hB4 hB5 hB6 hC hD hw f19a f19b f19c f19d; unfold seI; rw [if_neg (by unfold seB; simp_all <;> omega)]; unfold seE shB; first | (simp_all; done) | grind), (congrArg (fun w' => mP θ am ar w' N) (by clear C hκ hκl hS hB hB1 hB2 hB3 hB4 hB5 hB6 hC hD hw f19a f19b f19c f19d; unfold seW; rw [if_neg]; unfold seE shB; first | (simp_all; done) | grind))⟩
              · skip
                refine z_bipush C 76 dX7_set_74 (by decide) rfl ?_
                refine z_goto C 85 dX7_set_76 (by decide) ?_
                refine z_istore (lv' := [(0, .ref (am)), (1, .int (iI (f))), (2, .int (iI (x))), (3, .int (iI (s))), (4, .int (iI (0))), (5, .int (iI (6)))]) C 87 [1, 2, 3, 4, 5, 0] dX7_set_85 (by decide) rfl rfl ?_
                refine z_iload C 89 5 dX7_set_87 rfl rfl ?_
                refine z_if_ne C 110 92 dX7_set_89 (by decide) ⟨by decide, by decide⟩ rfl (fun c35 => ?_) (fun c35 => absurd c35 (by decide))
                refine z_iload C 112 5 dX7_set_110 rfl rfl ?_
                refine z_istore (lv' := [(0, .ref (am)), (1, .int (iI (f))), (2, .int (iI (x))), (3, .int (iI (s))), (4, .int (iI (0))), (5, .int (iI (6)))]) C 114 [1, 2, 3, 4, 5, 0] dX7_set_112 (by decide) rfl rfl ?_
                refine z_iload C 116 5 dX7_set_114 rfl rfl ?_
                refine z_if_le C 125 119 dX7_set_116 (by decide) ⟨by decide, by decide⟩ rfl (fun c36 => absurd c36 (by decide)) (fun c36 => ?_)
                refine z_bipush C 121 dX7_set_119 (by decide) rfl ?_
                refine z_iload C 123 5 dX7_set_121 rfl rfl ?_
                refine z_isub C 124 dX7_set_123 rfl ?_
                exact z_iret C dX7_set_124 rfl (Nat.le_of_ble_eq_true rfl) (Nat.le_of_ble_eq_true rfl) ⟨congrArg (fun z => some (Value.int (iI z))) (by clear C hκ hκl hS hB hB1 hB2 hB3 hB4 hB5 hB6 hC hD hw f19a f19b f19c f19d; unfold seI; rw [if_neg (by unfold seB; simp_all <;> omega)]; unfold seE shB; first | (simp_all; done) | grind), (congrArg (fun w' => mP θ am ar w' N) (by clear C hκ hκl hS hB hB1 hB2 hB3 hB4 hB5 hB6 hC hD hw f19a f19b f19c f19d; unfold seW; rw [if_neg]; unfold seE shB; first | (simp_all; done) | grind))⟩
            · skip
              refine z_iconst C 54 dX7_set_53 rfl ?_
              refine z_goto C 58 dX7_set_54 (by decide) ?_
              refine z_istore (lv' := [(0, .ref (am)), (1, .int (iI (f))), (2, .int (iI (x))), (3, .int (iI (s))), (4, .int (iI (1)))]) C 60 [1, 2, 3, 4, 0] dX7_set_58 (by decide) rfl rfl ?_
              refine z_iload C 62 4 dX7_set_60 rfl rfl ?_
              refine z_if_ne C 74 65 dX7_set_62 (by decide) ⟨by decide, by decide⟩ rfl (fun c37 => ?_) (fun c37 => absurd c37 (by decide))
              refine z_bipush C 76 dX7_set_74 (by decide) rfl ?_
              refine z_goto C 85 dX7_set_76 (by decide) ?_
              refine z_istore (lv' := [(0, .ref (am)), (1, .int (iI (f))), (2, .int (iI (x))), (3, .int (iI (s))), (4, .int (iI (1))), (5, .int (iI (6)))]) C 87 [1, 2, 3, 4, 5, 0] dX7_set_85 (by decide) rfl rfl ?_
              refine z_iload C 89 5 dX7_set_87 rfl rfl ?_
              refine z_if_ne C 110 92 dX7_set_89 (by decide) ⟨by decide, by decide⟩ rfl (fun c38 => ?_) (fun c38 => absurd c38 (by decide))
              refine z_iload C 112 5 dX7_set_110 rfl rfl ?_
              refine z_istore (lv' := [(0, .ref (am)), (1, .int (iI (f))), (2, .int (iI (x))), (3, .int (iI (s))), (4, .int (iI (1))), (5, .int (iI (6)))]) C 114 [1, 2, 3, 4, 5, 0] dX7_set_112 (by decide) rfl rfl ?_
              refine z_iload C 116 5 dX7_set_114 rfl rfl ?_
              refine z_if_le C 125 119 dX7_set_116 (by decide) ⟨by decide, by decide⟩ rfl (fun c39 => absurd c39 (by decide)) (fun c39 => ?_)
              refine z_bipush C 121 dX7_set_119 (by decide) rfl ?_
              refine z_iload C 123 5 dX7_set_121 rfl rfl ?_
              refine z_isub C 124 dX7_set_123 rfl ?_
              exact z_iret C dX7_set_124 rfl (Nat.le_of_ble_eq_true rfl) (Nat.le_of_ble_eq_true rfl) ⟨congrArg (fun z => some (Value.int (iI z))) (by clear C hκ hκl hS hB hB1 hB2 hB3 hB4 hB5 hB6 hC hD hw f19a f19b f19c f19d; unfold seI; rw [if_neg (by unfold seB; simp_all <;> omega)]; unfold seE shB; first | (simp_all; done) | grind), (congrArg (fun w' => mP θ am ar w' N) (by clear C hκ hκl hS hB hB1 hB2 hB3 hB4 hB5 hB6 hC hD hw f19a f19b f19c f19d; unfold seW; rw [if_neg]; unfold seE shB; first | (simp_all; done) | grind))⟩
      · skip
        have c3b : ¬ (0 ≤ (s) ∧ (s) < 8) := of_decide_eq_false c3
        refine z_iconst C 24 dX7_set_23 rfl ?_
        exact z_iret C dX7_set_24 rfl (Nat.le_of_ble_eq_true rfl) (Nat.le_of_ble_eq_true rfl) ⟨congrArg (fun z => some (Value.int (iI z))) (by clear C hκ hκl hS hB hB1 hB2 hB3 hB4 hB5 hB6 hC hD hw; unfold seI; rw [if_pos]; unfold seB; first | (simp_all; done) | grind), (congrArg (fun w' => mP θ am ar w' N) (by clear C hκ hκl hS hB hB1 hB2 hB3 hB4 hB5 hB6 hC hD hw; unfold seW; rw [if_neg]; unfold seB; first | (simp_all; done) | grind))⟩
set_option maxRecDepth 100000 in
theorem k7_item {l : Launch} {θ : zTh} {N : zMap} {am : Nat} {ar : Nat → Nat} {w : mW} (hD : mDis am ar) (hw : mWF w) (x : Int) (i : Int) (a : Int) (s : Int) (r_x : inR x) (r_i : inR i) (r_a : inR a) (r_s : inR s) (hS : mS w) (hV : mV w) : ZF θ l yX7_item cX7_item 6 (some .int) ⟨3, 0, 0, 75⟩ [.ref (am), .int (iI (x)), .int (iI (i)), .int (iI (a)), .int (iI (s))] (mP θ am ar w N) (some (.int (iI (itI w x i a s)))) (mP θ am ar (itW w x i a s) N) := by
  refine z_start (own := RX7) (nm := "item") pnX7 rfl rfl (Nat.le_of_ble_eq_true rfl) ?_
  intro κ hκ hκl C
  change Z κ (mP θ am ar w N) 0 0 0 [(0, .ref (am)), (1, .int (iI (x))), (2, .int (iI (i))), (3, .int (iI (a))), (4, .int (iI (s)))] []
  have hB := hS.B
  obtain ⟨hB1, hB2, hB3, hB4, hB5, hB6⟩ := hS.B
  have hC := hS.C
  refine z_aload_n C 1 0 dX7_item_0 rfl rfl ?_
  refine z_iload_n C 2 1 dX7_item_1 rfl rfl ?_
  refine z_callVF (n' := 0) (k' := 0) (As := [.int (iI (x))]) (rest := []) C hκ hκl 5 (k7_isThingOrNone hD hw (x) r_x hB) dX7_item_2 q2345 q2347 qs63 q97 q2348 znX7_isThingOrNone (Nat.le_of_ble_eq_true rfl) (Nat.le_of_ble_eq_true rfl) (Nat.le_of_ble_eq_true rfl) (Nat.le_of_ble_eq_true rfl) mrec rfl rfl (Nat.le_of_ble_eq_true rfl) rfl rfl rfl ?_
  refine z_ifB_eq C 28 8 dX7_item_5 (by decide) rfl (fun c1 => ?_) (fun c1 => ?_)
  · skip
    have c1b : ¬ ((x) = -1 ∨ (0 ≤ (x) ∧ (x) < w 27 0)) := of_decide_eq_false c1
    refine z_iconst C 29 dX7_item_28 rfl ?_
    exact z_iret C dX7_item_29 rfl (Nat.le_of_ble_eq_true rfl) (Nat.le_of_ble_eq_true rfl) ⟨congrArg (fun z => some (Value.int (iI z))) (by clear C hκ hκl hS hB hB1 hB2 hB3 hB4 hB5 hB6 hC hD hw; unfold itI; rw [if_pos]; unfold itB; first | (simp_all; done) | grind), (congrArg (fun w' => mP θ am ar w' N) (by clear C hκ hκl hS hB hB1 hB2 hB3 hB4 hB5 hB6 hC hD hw; unfold itW; rw [if_neg]; unfold itB; first | (simp_all; done) | grind))⟩
  · skip
    have c1b : ((x) = -1 ∨ (0 ≤ (x) ∧ (x) < w 27 0)) := of_decide_eq_true c1
    refine z_iload_n C 9 3 dX7_item_8 rfl rfl ?_
    refine z_i2l C 10 dX7_item_9 r_a rfl ?_
    refine z_lconst (x := 0) C 11 dX7_item_10 rfl rfl ?_
    refine z_ldc2 (z := 8) C 14 dX7_item_11 q2381 (by decide) rfl ?_
    refine z_callSF (n' := 0) (k' := 0) (As := [.long (lI (a)), .long (lI (0)), .long (lI (8))]) (rest := []) C hκ hκl 17 (k7_in (a) (0) (8) (inR_L r_a) ⟨by decide, by decide⟩ ⟨by decide, by decide⟩) dX7_item_14 q2164 q2165 q97 q2166 znX7_in (Nat.le_of_ble_eq_true rfl) (Nat.le_of_ble_eq_true rfl) (Nat.le_of_ble_eq_true rfl) (Nat.le_of_ble_eq_true rfl) rfl (Nat.le_of_ble_eq_true rfl) rfl rfl rfl ?_
    refine z_ifB_eq C 28 20 dX7_item_17 (by decide) rfl (fun c2 => ?_) (fun c2 => ?_)
    · skip
      have c2b : ¬ (((0) ≤ (a) ∧ (a) ≤ (8))) := of_decide_eq_false c2
      refine z_iconst C 29 dX7_item_28 rfl ?_
      exact z_iret C dX7_item_29 rfl (Nat.le_of_ble_eq_true rfl) (Nat.le_of_ble_eq_true rfl) ⟨congrArg (fun z => some (Value.int (iI z))) (by clear C hκ hκl hS hB hB1 hB2 hB3 hB4 hB5 hB6 hC hD hw; unfold itI; rw [if_pos]; unfold itB; first | (simp_all; done) | grind), (congrArg (fun w' => mP θ am ar w' N) (by clear C hκ hκl hS hB hB1 hB2 hB3 hB4 hB5 hB6 hC hD hw; unfold itW; rw [if_neg]; unfold itB; first | (simp_all; done) | grind))⟩
    · skip
      have c2b : (((0) ≤ (a) ∧ (a) ≤ (8))) := of_decide_eq_true c2
      refine z_iload C 22 4 dX7_item_20 rfl rfl ?_
      refine z_callSF (n' := 0) (k' := 0) (As := [.int (iI (s))]) (rest := []) C hκ hκl 25 (k7_isSlot (s) r_s) dX7_item_22 q2377 q2378 q97 q2379 znX7_isSlot (Nat.le_of_ble_eq_true rfl) (Nat.le_of_ble_eq_true rfl) (Nat.le_of_ble_eq_true rfl) (Nat.le_of_ble_eq_true rfl) rfl (Nat.le_of_ble_eq_true rfl) rfl rfl rfl ?_
      refine z_ifB_ne C 30 28 dX7_item_25 (by decide) rfl (fun c3 => ?_) (fun c3 => ?_)
      · skip
        have c3b : (0 ≤ (s) ∧ (s) < 8) := of_decide_eq_true c3
        refine z_aload_n C 31 0 dX7_item_30 rfl rfl ?_
        refine z_iload_n C 32 1 dX7_item_31 rfl rfl ?_
        refine z_iload_n C 33 2 dX7_item_32 rfl rfl ?_
        refine z_iload_n C 34 3 dX7_item_33 rfl rfl ?_
        refine z_bipush C 36 dX7_item_34 (by decide) rfl ?_
        refine z_icmp_ge C 43 39 dX7_item_36 (by decide) r_a ⟨by decide, by decide⟩ rfl (fun c4 => ?_) (fun c4 => ?_)
        · skip
          refine z_iconst C 44 dX7_item_43 rfl ?_
          refine z_callVF (n' := 0) (k' := 0) (As := [.int (iI (x)), .int (iI (i)), .int (iI (0))]) (rest := []) C hκ hκl 47 (k7_againstItem hD hw (x) (i) (false) r_x r_i hS (by omega)) dX7_item_44 q2473 q2475 qs74 q97 q2476 znX7_againstItem (Nat.le_of_ble_eq_true rfl) (Nat.le_of_ble_eq_true rfl) (Nat.le_of_ble_eq_true rfl) (Nat.le_of_ble_eq_true rfl) mrec rfl rfl (Nat.le_of_ble_eq_true rfl) rfl rfl rfl ?_
          have h5 := aiI_r (w := w) (x := x) (i := i) (p := false)
          refine z_istore (lv' := [(0, .ref (am)), (1, .int (iI (x))), (2, .int (iI (i))), (3, .int (iI (a))), (4, .int (iI (s))), (5, .int (iI (aiI w (x) (i) (false))))]) C 49 [1, 2, 3, 4, 5, 0] dX7_item_47 (by decide) rfl rfl ?_
          refine z_iload C 51 5 dX7_item_49 rfl rfl ?_
          refine z_if_ne C 76 54 dX7_item_51 (by decide) ⟨by omega, by omega⟩ rfl (fun c6 => ?_) (fun c6 => ?_)
          · skip
            refine z_iload C 78 5 dX7_item_76 rfl rfl ?_
            refine z_istore (lv' := [(0, .ref (am)), (1, .int (iI (x))), (2, .int (iI (i))), (3, .int (iI (a))), (4, .int (iI (s))), (5, .int (iI (aiI w (x) (i) (false))))]) C 80 [1, 2, 3, 4, 5, 0] dX7_item_78 (by decide) rfl rfl ?_
            refine z_iload C 82 5 dX7_item_80 rfl rfl ?_
            refine z_if_le C 91 85 dX7_item_82 (by decide) ⟨by omega, by omega⟩ rfl (fun c7 => ?_) (fun c7 => ?_)
            · skip
              have hE : itE w x i a = 0 := by clear C hκ hκl; unfold itE; first | (simp_all; done) | grind
              have hai : aiI w x i (decide (a < 8)) = 0 := by clear C hκ hκl; unfold itE at hE; split at hE; assumption; assumption
              obtain ⟨i1, i2, i3, i4, i5⟩ := aiI_0 hai
              obtain ⟨xa, xb, xc⟩ := hS.X (show 0 ≤ x by omega) (by omega)
              have hft := hV.2.2.2.1 x i (by omega) (by omega) (by omega) (by omega) i2
              refine z_aload_n C 92 0 dX7_item_91 rfl rfl ?_
              refine z_iload C 94 4 dX7_item_92 rfl rfl ?_
              refine z_iload_n C 95 3 dX7_item_94 rfl rfl ?_
              refine z_aload_n C 96 0 dX7_item_95 rfl rfl ?_
              refine m_geta C hκ 99 31 (by decide) rfl q2026 rfl dX7_item_96 rfl ?_
              refine z_bipush C 101 dX7_item_99 (by decide) rfl ?_
              refine z_iload_n C 102 1 dX7_item_101 rfl rfl ?_
              refine z_imul C 103 dX7_item_102 rfl ?_
              refine z_iload_n C 104 2 dX7_item_103 rfl rfl ?_
              refine z_iadd C 105 dX7_item_104 rfl ?_
              refine m_lald (len := 1600) C hκ hD 106 31 (by decide) rfl rfl (by omega) (by omega) dX7_item_105 rfl ?_
              refine z_aload_n C 107 0 dX7_item_106 rfl rfl ?_
              refine m_geta C hκ 110 4 (by decide) rfl q1999 rfl dX7_item_107 rfl ?_
              refine z_aload_n C 111 0 dX7_item_110 rfl rfl ?_
              refine m_geta C hκ 114 28 (by decide) rfl q2023 rfl dX7_item_111 rfl ?_
              refine z_iload_n C 115 1 dX7_item_114 rfl rfl ?_
              obtain ⟨f8a, f8b, f8c⟩ := hS.X (show 0 ≤ x by omega) (by omega)
              refine m_iald (len := 80) C hκ hD 116 28 (by decide) rfl rfl (by omega) (by omega) dX7_item_115 rfl ?_
              obtain ⟨f9a, f9b, f9c, f9d, f9e, f9f, f9g, f9h⟩ := hS.T (show 0 ≤ w 28 (x) by omega) (by omega)
              refine m_iald (len := 60) C hκ hD 117 4 (by decide) rfl rfl (by omega) (by omega) dX7_item_116 rfl ?_
              refine z_iload_n C 118 3 dX7_item_117 rfl rfl ?_
              refine z_callSF (n' := 0) (k' := 0) (As := [.long (lI (w 31 (((20) * (x)) + (i)))), .int (iI (w 4 (w 28 (x)))), .int (iI (a))]) (rest := [.int (iI (a)), .int (iI (s)), .ref (am)]) C hκ hκl 121 (k7_widened (w 31 (((20) * (x)) + (i))) (w 4 (w 28 (x))) (a) (hw.l _ _) (hw.r _ _ rfl) r_a (ft6 hft)) dX7_item_118 q2428 q2429 q97 q2430 znX7_widened (Nat.le_of_ble_eq_true rfl) (Nat.le_of_ble_eq_true rfl) (Nat.le_of_ble_eq_true rfl) (Nat.le_of_ble_eq_true rfl) rfl (Nat.le_of_ble_eq_true rfl) rfl rfl rfl ?_
              refine z_callVF0 (n' := 0) (k' := 0) (As := [.int (iI (s)), .int (iI (a)), .long (lI (wdL (w 31 (((20) * (x)) + (i))) (w 4 (w 28 (x))) (a)))]) (rest := []) C hκ hκl 124 (k7_lay hD hw (s) (a) (wdL (w 31 (((20) * (x)) + (i))) (w 4 (w 28 (x))) (a)) r_s r_a (wdL_L (hw.l _ _)) (by omega)) dX7_item_121 q2396 q2398 qs68 q97 q2399 znX7_lay (Nat.le_of_ble_eq_true rfl) (Nat.le_of_ble_eq_true rfl) (Nat.le_of_ble_eq_true rfl) (Nat.le_of_ble_eq_true rfl) mrec rfl rfl (Nat.le_of_ble_eq_true rfl) rfl rfl rfl ?_
              obtain ⟨w1, ew1⟩ : ∃ wz, layW w (s) (a) (wdL (w 31 (((20) * (x)) + (i))) (w 4 (w 28 (x))) (a)) = wz := ⟨_, rfl⟩
              rw [ew1]
              have hw1 : mWF w1 := ew1 ▸ ((hw.set r_a rfl).setL (wdL_L (hw.l _ _)) rfl rfl)
              refine z_iconst C 125 dX7_item_124 rfl ?_
              exact z_iret C dX7_item_125 rfl (Nat.le_of_ble_eq_true rfl) (Nat.le_of_ble_eq_true rfl) ⟨congrArg (fun z => some (Value.int (iI z))) (by unfold itI; rw [if_neg (by clear C hκ hκl; unfold itB; simp_all <;> omega), if_neg (by omega)]), (congrArg (fun w' => mP θ am ar w' N) (by unfold itW; rw [if_pos (by clear C hκ hκl; unfold itB; simp_all <;> omega)]; subst_vars; rfl))⟩
            · skip
              refine z_bipush C 87 dX7_item_85 (by decide) rfl ?_
              refine z_iload C 89 5 dX7_item_87 rfl rfl ?_
              refine z_isub C 90 dX7_item_89 rfl ?_
              exact z_iret C dX7_item_90 rfl (Nat.le_of_ble_eq_true rfl) (Nat.le_of_ble_eq_true rfl) ⟨congrArg (fun z => some (Value.int (iI z))) (by clear C hκ hκl hS hB hB1 hB2 hB3 hB4 hB5 hB6 hC hD hw; unfold itI; rw [if_neg (by unfold itB; simp_all <;> omega)]; unfold itE; first | (simp_all; done) | grind), (congrArg (fun w' => mP θ am ar w' N) (by clear C hκ hκl hS hB hB1 hB2 hB3 hB4 hB5 hB6 hC hD hw; unfold itW; rw [if_neg]; unfold itE; first | (simp_all; done) | grind))⟩
          · skip
            have hai0 : aiI w (x) (i) (false) = 0 := by omega
            obtain ⟨i1, i2, i3, i4, i5⟩ := aiI_0 hai0
            obtain ⟨xa, xb, xc⟩ := hS.X (show 0 ≤ x by omega) (by omega)
            have yy := hS.T (show 0 ≤ w 28 x by omega) (by omega)
            obtain ⟨ya, yb, yc, yd, ye, yf, yg, yh⟩ := yy
            refine z_aload_n C 55 0 dX7_item_54 rfl rfl ?_
            refine m_geta C hκ 58 4 (by decide) rfl q1999 rfl dX7_item_55 rfl ?_
            refine z_aload_n C 59 0 dX7_item_58 rfl rfl ?_
            refine m_geta C hκ 62 28 (by decide) rfl q2023 rfl dX7_item_59 rfl ?_
            refine z_iload_n C 63 1 dX7_item_62 rfl rfl ?_
            obtain ⟨f10a, f10b, f10c⟩ := hS.X (show 0 ≤ x by omega) (by omega)
            refine m_iald (len := 80) C hκ hD 64 28 (by decide) rfl rfl (by omega) (by omega) dX7_item_63 rfl ?_
            obtain ⟨f11a, f11b, f11c, f11d, f11e, f11f, f11g, f11h⟩ := hS.T (show 0 ≤ w 28 (x) by omega) (by omega)
            refine m_iald (len := 60) C hκ hD 65 4 (by decide) rfl rfl (by omega) (by omega) dX7_item_64 rfl ?_
            refine z_iload_n C 66 3 dX7_item_65 rfl rfl ?_
            refine z_callSF (n' := 0) (k' := 0) (As := [.int (iI (w 4 (w 28 (x)))), .int (iI (a))]) (rest := []) C hκ hκl 69 (k7_mayTell (w 4 (w 28 (x))) (a) (hw.r _ _ rfl) r_a) dX7_item_66 q2421 q2422 q97 q2423 znX7_mayTell (Nat.le_of_ble_eq_true rfl) (Nat.le_of_ble_eq_true rfl) (Nat.le_of_ble_eq_true rfl) (Nat.le_of_ble_eq_true rfl) rfl (Nat.le_of_ble_eq_true rfl) rfl rfl rfl ?_
            refine z_ifB_ne C 76 72 dX7_item_69 (by decide) rfl (fun c12 => ?_) (fun c12 => ?_)
            · skip
              refine z_iload C 78 5 dX7_item_76 rfl rfl ?_
              refine z_istore (lv' := [(0, .ref (am)), (1, .int (iI (x))), (2, .int (iI (i))), (3, .int (iI (a))), (4, .int (iI (s))), (5, .int (iI (aiI w (x) (i) (false))))]) C 80 [1, 2, 3, 4, 5, 0] dX7_item_78 (by decide) rfl rfl ?_
              refine z_iload C 82 5 dX7_item_80 rfl rfl ?_
              refine z_if_le C 91 85 dX7_item_82 (by decide) ⟨by omega, by omega⟩ rfl (fun c13 => ?_) (fun c13 => ?_)
              · skip
                have hE : itE w x i a = 0 := by clear C hκ hκl; unfold itE; first | (simp_all; done) | grind
                have hai : aiI w x i (decide (a < 8)) = 0 := by clear C hκ hκl; unfold itE at hE; split at hE; assumption; assumption
                obtain ⟨i1, i2, i3, i4, i5⟩ := aiI_0 hai
                obtain ⟨xa, xb, xc⟩ := hS.X (show 0 ≤ x by omega) (by omega)
                have hft := hV.2.2.2.1 x i (by omega) (by omega) (by omega) (by omega) i2
                refine z_aload_n C 92 0 dX7_item_91 rfl rfl ?_
                refine z_iload C 94 4 dX7_item_92 rfl rfl ?_
                refine z_iload_n C 95 3 dX7_item_94 rfl rfl ?_
                refine z_aload_n C 96 0 dX7_item_95 rfl rfl ?_
                refine m_geta C hκ 99 31 (by decide) rfl q2026 rfl dX7_item_96 rfl ?_
                refine z_bipush C 101 dX7_item_99 (by decide) rfl ?_
                refine z_iload_n C 102 1 dX7_item_101 rfl rfl ?_
                refine z_imul C 103 dX7_item_102 rfl ?_
                refine z_iload_n C 104 2 dX7_item_103 rfl rfl ?_
                refine z_iadd C 105 dX7_item_104 rfl ?_
                refine m_lald (len := 1600) C hκ hD 106 31 (by decide) rfl rfl (by omega) (by omega) dX7_item_105 rfl ?_
                refine z_aload_n C 107 0 dX7_item_106 rfl rfl ?_
                refine m_geta C hκ 110 4 (by decide) rfl q1999 rfl dX7_item_107 rfl ?_
                refine z_aload_n C 111 0 dX7_item_110 rfl rfl ?_
                refine m_geta C hκ 114 28 (by decide) rfl q2023 rfl dX7_item_111 rfl ?_
                refine z_iload_n C 115 1 dX7_item_114 rfl rfl ?_
                refine m_iald (len := 80) C hκ hD 116 28 (by decide) rfl rfl (by omega) (by omega) dX7_item_115 rfl ?_
                refine m_iald (len := 60) C hκ hD 117 4 (by decide) rfl rfl (by omega) (by omega) dX7_item_116 rfl ?_
                refine z_iload_n C 118 3 dX7_item_117 rfl rfl ?_
                refine z_callSF (n' := 0) (k' := 0) (As := [.long (lI (w 31 (((20) * (x)) + (i)))), .int (iI (w 4 (w 28 (x)))), .int (iI (a))]) (rest := [.int (iI (a)), .int (iI (s)), .ref (am)]) C hκ hκl 121 (k7_widened (w 31 (((20) * (x)) + (i))) (w 4 (w 28 (x))) (a) (hw.l _ _) (hw.r _ _ rfl) r_a (ft6 hft)) dX7_item_118 q2428 q2429 q97 q2430 znX7_widened (Nat.le_of_ble_eq_true rfl) (Nat.le_of_ble_eq_true rfl) (Nat.le_of_ble_eq_true rfl) (Nat.le_of_ble_eq_true rfl) rfl (Nat.le_of_ble_eq_true rfl) rfl rfl rfl ?_
                refine z_callVF0 (n' := 0) (k' := 0) (As := [.int (iI (s)), .int (iI (a)), .long (lI (wdL (w 31 (((20) * (x)) + (i))) (w 4 (w 28 (x))) (a)))]) (rest := []) C hκ hκl 124 (k7_lay hD hw (s) (a) (wdL (w 31 (((20) * (x)) + (i))) (w 4 (w 28 (x))) (a)) r_s r_a (wdL_L (hw.l _ _)) (by omega)) dX7_item_121 q2396 q2398 qs68 q97 q2399 znX7_lay (Nat.le_of_ble_eq_true rfl) (Nat.le_of_ble_eq_true rfl) (Nat.le_of_ble_eq_true rfl) (Nat.le_of_ble_eq_true rfl) mrec rfl rfl (Nat.le_of_ble_eq_true rfl) rfl rfl rfl ?_
                obtain ⟨w2, ew2⟩ : ∃ wz, layW w (s) (a) (wdL (w 31 (((20) * (x)) + (i))) (w 4 (w 28 (x))) (a)) = wz := ⟨_, rfl⟩
                rw [ew2]
                have hw2 : mWF w2 := ew2 ▸ ((hw.set r_a rfl).setL (wdL_L (hw.l _ _)) rfl rfl)
                refine z_iconst C 125 dX7_item_124 rfl ?_
                exact z_iret C dX7_item_125 rfl (Nat.le_of_ble_eq_true rfl) (Nat.le_of_ble_eq_true rfl) ⟨congrArg (fun z => some (Value.int (iI z))) (by unfold itI; rw [if_neg (by clear C hκ hκl; unfold itB; simp_all <;> omega), if_neg (by omega)]), (congrArg (fun w' => mP θ am ar w' N) (by unfold itW; rw [if_pos (by clear C hκ hκl; unfold itB; simp_all <;> omega)]; subst_vars; rfl))⟩
              · skip
                refine z_bipush C 87 dX7_item_85 (by decide) rfl ?_
                refine z_iload C 89 5 dX7_item_87 rfl rfl ?_
                refine z_isub C 90 dX7_item_89 rfl ?_
                exact z_iret C dX7_item_90 rfl (Nat.le_of_ble_eq_true rfl) (Nat.le_of_ble_eq_true rfl) ⟨congrArg (fun z => some (Value.int (iI z))) (by clear C hκ hκl hS hB hB1 hB2 hB3 hB4 hB5 hB6 hC hD hw ya yb yc yd ye yf yg yh f10a f10b f10c f11a f11b f11c f11d f11e f11f f11g f11h; unfold itI; rw [if_neg (by unfold itB; simp_all <;> omega)]; unfold itE; first | (simp_all; done) | grind), (congrArg (fun w' => mP θ am ar w' N) (by clear C hκ hκl hS hB hB1 hB2 hB3 hB4 hB5 hB6 hC hD hw ya yb yc yd ye yf yg yh f10a f10b f10c f11a f11b f11c f11d f11e f11f f11g f11h; unfold itW; rw [if_neg]; unfold itE; first | (simp_all; done) | grind))⟩
            · skip
              refine z_iconst C 73 dX7_item_72 rfl ?_
              refine z_goto C 78 dX7_item_73 (by decide) ?_
              refine z_istore (lv' := [(0, .ref (am)), (1, .int (iI (x))), (2, .int (iI (i))), (3, .int (iI (a))), (4, .int (iI (s))), (5, .int (iI (2)))]) C 80 [1, 2, 3, 4, 5, 0] dX7_item_78 (by decide) rfl rfl ?_
              refine z_iload C 82 5 dX7_item_80 rfl rfl ?_
              refine z_if_le C 91 85 dX7_item_82 (by decide) ⟨by decide, by decide⟩ rfl (fun c14 => absurd c14 (by decide)) (fun c14 => ?_)
              refine z_bipush C 87 dX7_item_85 (by decide) rfl ?_
              refine z_iload C 89 5 dX7_item_87 rfl rfl ?_
              refine z_isub C 90 dX7_item_89 rfl ?_
              exact z_iret C dX7_item_90 rfl (Nat.le_of_ble_eq_true rfl) (Nat.le_of_ble_eq_true rfl) ⟨congrArg (fun z => some (Value.int (iI z))) (by clear C hκ hκl hS hB hB1 hB2 hB3 hB4 hB5 hB6 hC hD hw ya yb yc yd ye yf yg yh f10a f10b f10c f11a f11b f11c f11d f11e f11f f11g f11h; unfold itI; rw [if_neg (by unfold itB; simp_all <;> omega)]; unfold itE; first | (simp_all; done) | grind), (congrArg (fun w' => mP θ am ar w' N) (by clear C hκ hκl hS hB hB1 hB2 hB3 hB4 hB5 hB6 hC hD hw ya yb yc yd ye yf yg yh f10a f10b f10c f11a f11b f11c f11d f11e f11f f11g f11h; unfold itW; rw [if_neg]; unfold itE; first | (simp_all; done) | grind))⟩
        · skip
          refine z_iconst C 40 dX7_item_39 rfl ?_
          refine z_goto C 44 dX7_item_40 (by decide) ?_
          refine z_callVF (n' := 0) (k' := 0) (As := [.int (iI (x)), .int (iI (i)), .int (iI (1))]) (rest := []) C hκ hκl 47 (k7_againstItem hD hw (x) (i) (true) r_x r_i hS (by omega)) dX7_item_44 q2473 q2475 qs74 q97 q2476 znX7_againstItem (Nat.le_of_ble_eq_true rfl) (Nat.le_of_ble_eq_true rfl) (Nat.le_of_ble_eq_true rfl) (Nat.le_of_ble_eq_true rfl) mrec rfl rfl (Nat.le_of_ble_eq_true rfl) rfl rfl rfl ?_
          have h15 := aiI_r (w := w) (x := x) (i := i) (p := true)
          refine z_istore (lv' := [(0, .ref (am)), (1, .int (iI (x))), (2, .int (iI (i))), (3, .int (iI (a))), (4, .int (iI (s))), (5, .int (iI (aiI w (x) (i) (true))))]) C 49 [1, 2, 3, 4, 5, 0] dX7_item_47 (by decide) rfl rfl ?_
          refine z_iload C 51 5 dX7_item_49 rfl rfl ?_
          refine z_if_ne C 76 54 dX7_item_51 (by decide) ⟨by omega, by omega⟩ rfl (fun c16 => ?_) (fun c16 => ?_)
          · skip
            refine z_iload C 78 5 dX7_item_76 rfl rfl ?_
            refine z_istore (lv' := [(0, .ref (am)), (1, .int (iI (x))), (2, .int (iI (i))), (3, .int (iI (a))), (4, .int (iI (s))), (5, .int (iI (aiI w (x) (i) (true))))]) C 80 [1, 2, 3, 4, 5, 0] dX7_item_78 (by decide) rfl rfl ?_
            refine z_iload C 82 5 dX7_item_80 rfl rfl ?_
            refine z_if_le C 91 85 dX7_item_82 (by decide) ⟨by omega, by omega⟩ rfl (fun c17 => ?_) (fun c17 => ?_)
            · skip
              have hE : itE w x i a = 0 := by clear C hκ hκl; unfold itE; first | (simp_all; done) | grind
              have hai : aiI w x i (decide (a < 8)) = 0 := by clear C hκ hκl; unfold itE at hE; split at hE; assumption; assumption
              obtain ⟨i1, i2, i3, i4, i5⟩ := aiI_0 hai
              obtain ⟨xa, xb, xc⟩ := hS.X (show 0 ≤ x by omega) (by omega)
              have hft := hV.2.2.2.1 x i (by omega) (by omega) (by omega) (by omega) i2
              refine z_aload_n C 92 0 dX7_item_91 rfl rfl ?_
              refine z_iload C 94 4 dX7_item_92 rfl rfl ?_
              refine z_iload_n C 95 3 dX7_item_94 rfl rfl ?_
              refine z_aload_n C 96 0 dX7_item_95 rfl rfl ?_
              refine m_geta C hκ 99 31 (by decide) rfl q2026 rfl dX7_item_96 rfl ?_
              refine z_bipush C 101 dX7_item_99 (by decide) rfl ?_
              refine z_iload_n C 102 1 dX7_item_101 rfl rfl ?_
              refine z_imul C 103 dX7_item_102 rfl ?_
              refine z_iload_n C 104 2 dX7_item_103 rfl rfl ?_
              refine z_iadd C 105 dX7_item_104 rfl ?_
              refine m_lald (len := 1600) C hκ hD 106 31 (by decide) rfl rfl (by omega) (by omega) dX7_item_105 rfl ?_
              refine z_aload_n C 107 0 dX7_item_106 rfl rfl ?_
              refine m_geta C hκ 110 4 (by decide) rfl q1999 rfl dX7_item_107 rfl ?_
              refine z_aload_n C 111 0 dX7_item_110 rfl rfl ?_
              refine m_geta C hκ 114 28 (by decide) rfl q2023 rfl dX7_item_111 rfl ?_
              refine z_iload_n C 115 1 dX7_item_114 rfl rfl ?_
              obtain ⟨f18a, f18b, f18c⟩ := hS.X (show 0 ≤ x by omega) (by omega)
              refine m_iald (len := 80) C hκ hD 116 28 (by decide) rfl rfl (by omega) (by omega) dX7_item_115 rfl ?_
              obtain ⟨f19a, f19b, f19c, f19d, f19e, f19f, f19g, f19h⟩ := hS.T (show 0 ≤ w 28 (x) by omega) (by omega)
              refine m_iald (len := 60) C hκ hD 117 4 (by decide) rfl rfl (by omega) (by omega) dX7_item_116 rfl ?_
              refine z_iload_n C 118 3 dX7_item_117 rfl rfl ?_
              refine z_callSF (n' := 0) (k' := 0) (As := [.long (lI (w 31 (((20) * (x)) + (i)))), .int (iI (w 4 (w 28 (x)))), .int (iI (a))]) (rest := [.int (iI (a)), .int (iI (s)), .ref (am)]) C hκ hκl 121 (k7_widened (w 31 (((20) * (x)) + (i))) (w 4 (w 28 (x))) (a) (hw.l _ _) (hw.r _ _ rfl) r_a (ft6 hft)) dX7_item_118 q2428 q2429 q97 q2430 znX7_widened (Nat.le_of_ble_eq_true rfl) (Nat.le_of_ble_eq_true rfl) (Nat.le_of_ble_eq_true rfl) (Nat.le_of_ble_eq_true rfl) rfl (Nat.le_of_ble_eq_true rfl) rfl rfl rfl ?_
              refine z_callVF0 (n' := 0) (k' := 0) (As := [.int (iI (s)), .int (iI (a)), .long (lI (wdL (w 31 (((20) * (x)) + (i))) (w 4 (w 28 (x))) (a)))]) (rest := []) C hκ hκl 124 (k7_lay hD hw (s) (a) (wdL (w 31 (((20) * (x)) + (i))) (w 4 (w 28 (x))) (a)) r_s r_a (wdL_L (hw.l _ _)) (by omega)) dX7_item_121 q2396 q2398 qs68 q97 q2399 znX7_lay (Nat.le_of_ble_eq_true rfl) (Nat.le_of_ble_eq_true rfl) (Nat.le_of_ble_eq_true rfl) (Nat.le_of_ble_eq_true rfl) mrec rfl rfl (Nat.le_of_ble_eq_true rfl) rfl rfl rfl ?_
              obtain ⟨w3, ew3⟩ : ∃ wz, layW w (s) (a) (wdL (w 31 (((20) * (x)) + (i))) (w 4 (w 28 (x))) (a)) = wz := ⟨_, rfl⟩
              rw [ew3]
              have hw3 : mWF w3 := ew3 ▸ ((hw.set r_a rfl).setL (wdL_L (hw.l _ _)) rfl rfl)
              refine z_iconst C 125 dX7_item_124 rfl ?_
              exact z_iret C dX7_item_125 rfl (Nat.le_of_ble_eq_true rfl) (Nat.le_of_ble_eq_true rfl) ⟨congrArg (fun z => some (Value.int (iI z))) (by unfold itI; rw [if_neg (by clear C hκ hκl; unfold itB; simp_all <;> omega), if_neg (by omega)]), (congrArg (fun w' => mP θ am ar w' N) (by unfold itW; rw [if_pos (by clear C hκ hκl; unfold itB; simp_all <;> omega)]; subst_vars; rfl))⟩
            · skip
              refine z_bipush C 87 dX7_item_85 (by decide) rfl ?_
              refine z_iload C 89 5 dX7_item_87 rfl rfl ?_
              refine z_isub C 90 dX7_item_89 rfl ?_
              exact z_iret C dX7_item_90 rfl (Nat.le_of_ble_eq_true rfl) (Nat.le_of_ble_eq_true rfl) ⟨congrArg (fun z => some (Value.int (iI z))) (by clear C hκ hκl hS hB hB1 hB2 hB3 hB4 hB5 hB6 hC hD hw; unfold itI; rw [if_neg (by unfold itB; simp_all <;> omega)]; unfold itE; first | (simp_all; done) | grind), (congrArg (fun w' => mP θ am ar w' N) (by clear C hκ hκl hS hB hB1 hB2 hB3 hB4 hB5 hB6 hC hD hw; unfold itW; rw [if_neg]; unfold itE; first | (simp_all; done) | grind))⟩
          · skip
            have hai0 : aiI w (x) (i) (true) = 0 := by omega
            obtain ⟨i1, i2, i3, i4, i5⟩ := aiI_0 hai0
            obtain ⟨xa, xb, xc⟩ := hS.X (show 0 ≤ x by omega) (by omega)
            have yy := hS.T (show 0 ≤ w 28 x by omega) (by omega)
            obtain ⟨ya, yb, yc, yd, ye, yf, yg, yh⟩ := yy
            refine z_aload_n C 55 0 dX7_item_54 rfl rfl ?_
            refine m_geta C hκ 58 4 (by decide) rfl q1999 rfl dX7_item_55 rfl ?_
            refine z_aload_n C 59 0 dX7_item_58 rfl rfl ?_
            refine m_geta C hκ 62 28 (by decide) rfl q2023 rfl dX7_item_59 rfl ?_
            refine z_iload_n C 63 1 dX7_item_62 rfl rfl ?_
            obtain ⟨f20a, f20b, f20c⟩ := hS.X (show 0 ≤ x by omega) (by omega)
            refine m_iald (len := 80) C hκ hD 64 28 (by decide) rfl rfl (by omega) (by omega) dX7_item_63 rfl ?_
            obtain ⟨f21a, f21b, f21c, f21d, f21e, f21f, f21g, f21h⟩ := hS.T (show 0 ≤ w 28 (x) by omega) (by omega)
            refine m_iald (len := 60) C hκ hD 65 4 (by decide) rfl rfl (by omega) (by omega) dX7_item_64 rfl ?_
            refine z_iload_n C 66 3 dX7_item_65 rfl rfl ?_
            refine z_callSF (n' := 0) (k' := 0) (As := [.int (iI (w 4 (w 28 (x)))), .int (iI (a))]) (rest := []) C hκ hκl 69 (k7_mayTell (w 4 (w 28 (x))) (a) (hw.r _ _ rfl) r_a) dX7_item_66 q2421 q2422 q97 q2423 znX7_mayTell (Nat.le_of_ble_eq_true rfl) (Nat.le_of_ble_eq_true rfl) (Nat.le_of_ble_eq_true rfl) (Nat.le_of_ble_eq_true rfl) rfl (Nat.le_of_ble_eq_true rfl) rfl rfl rfl ?_
            refine z_ifB_ne C 76 72 dX7_item_69 (by decide) rfl (fun c22 => ?_) (fun c22 => ?_)
            · skip
              refine z_iload C 78 5 dX7_item_76 rfl rfl ?_
              refine z_istore (lv' := [(0, .ref (am)), (1, .int (iI (x))), (2, .int (iI (i))), (3, .int (iI (a))), (4, .int (iI (s))), (5, .int (iI (aiI w (x) (i) (true))))]) C 80 [1, 2, 3, 4, 5, 0] dX7_item_78 (by decide) rfl rfl ?_
              refine z_iload C 82 5 dX7_item_80 rfl rfl ?_
              refine z_if_le C 91 85 dX7_item_82 (by decide) ⟨by omega, by omega⟩ rfl (fun c23 => ?_) (fun c23 => ?_)
              · skip
                have hE : itE w x i a = 0 := by clear C hκ hκl; unfold itE; first | (simp_all; done) | grind
                have hai : aiI w x i (decide (a < 8)) = 0 := by clear C hκ hκl; unfold itE at hE; split at hE; assumption; assumption
                obtain ⟨i1, i2, i3, i4, i5⟩ := aiI_0 hai
                obtain ⟨xa, xb, xc⟩ := hS.X (show 0 ≤ x by omega) (by omega)
                have hft := hV.2.2.2.1 x i (by omega) (by omega) (by omega) (by omega) i2
                refine z_aload_n C 92 0 dX7_item_91 rfl rfl ?_
                refine z_iload C 94 4 dX7_item_92 rfl rfl ?_
                refine z_iload_n C 95 3 dX7_item_94 rfl rfl ?_
                refine z_aload_n C 96 0 dX7_item_95 rfl rfl ?_
                refine m_geta C hκ 99 31 (by decide) rfl q2026 rfl dX7_item_96 rfl ?_
                refine z_bipush C 101 dX7_item_99 (by decide) rfl ?_
                refine z_iload_n C 102 1 dX7_item_101 rfl rfl ?_
                refine z_imul C 103 dX7_item_102 rfl ?_
                refine z_iload_n C 104 2 dX7_item_103 rfl rfl ?_
                refine z_iadd C 105 dX7_item_104 rfl ?_
                refine m_lald (len := 1600) C hκ hD 106 31 (by decide) rfl rfl (by omega) (by omega) dX7_item_105 rfl ?_
                refine z_aload_n C 107 0 dX7_item_106 rfl rfl ?_
                refine m_geta C hκ 110 4 (by decide) rfl q1999 rfl dX7_item_107 rfl ?_
                refine z_aload_n C 111 0 dX7_item_110 rfl rfl ?_
                refine m_geta C hκ 114 28 (by decide) rfl q2023 rfl dX7_item_111 rfl ?_
                refine z_iload_n C 115 1 dX7_item_114 rfl rfl ?_
                refine m_iald (len := 80) C hκ hD 116 28 (by decide) rfl rfl (by omega) (by omega) dX7_item_115 rfl ?_
                refine m_iald (len := 60) C hκ hD 117 4 (by decide) rfl rfl (by omega) (by omega) dX7_item_116 rfl ?_
                refine z_iload_n C 118 3 dX7_item_117 rfl rfl ?_
                refine z_callSF (n' := 0) (k' := 0) (As := [.long (lI (w 31 (((20) * (x)) + (i)))), .int (iI (w 4 (w 28 (x)))), .int (iI (a))]) (rest := [.int (iI (a)), .int (iI (s)), .ref (am)]) C hκ hκl 121 (k7_widened (w 31 (((20) * (x)) + (i))) (w 4 (w 28 (x))) (a) (hw.l _ _) (hw.r _ _ rfl) r_a (ft6 hft)) dX7_item_118 q2428 q2429 q97 q2430 znX7_widened (Nat.le_of_ble_eq_true rfl) (Nat.le_of_ble_eq_true rfl) (Nat.le_of_ble_eq_true rfl) (Nat.le_of_ble_eq_true rfl) rfl (Nat.le_of_ble_eq_true rfl) rfl rfl rfl ?_
                refine z_callVF0 (n' := 0) (k' := 0) (As := [.int (iI (s)), .int (iI (a)), .long (lI (wdL (w 31 (((20) * (x)) + (i))) (w 4 (w 28 (x))) (a)))]) (rest := []) C hκ hκl 124 (k7_lay hD hw (s) (a) (wdL (w 31 (((20) * (x)) + (i))) (w 4 (w 28 (x))) (a)) r_s r_a (wdL_L (hw.l _ _)) (by omega)) dX7_item_121 q2396 q2398 qs68 q97 q2399 znX7_lay (Nat.le_of_ble_eq_true rfl) (Nat.le_of_ble_eq_true rfl) (Nat.le_of_ble_eq_true rfl) (Nat.le_of_ble_eq_true rfl) mrec rfl rfl (Nat.le_of_ble_eq_true rfl) rfl rfl rfl ?_
                obtain ⟨w4, ew4⟩ : ∃ wz, layW w (s) (a) (wdL (w 31 (((20) * (x)) + (i))) (w 4 (w 28 (x))) (a)) = wz := ⟨_, rfl⟩
                rw [ew4]
                have hw4 : mWF w4 := ew4 ▸ ((hw.set r_a rfl).setL (wdL_L (hw.l _ _)) rfl rfl)
                refine z_iconst C 125 dX7_item_124 rfl ?_
                exact z_iret C dX7_item_125 rfl (Nat.le_of_ble_eq_true rfl) (Nat.le_of_ble_eq_true rfl) ⟨congrArg (fun z => some (Value.int (iI z))) (by unfold itI; rw [if_neg (by clear C hκ hκl; unfold itB; simp_all <;> omega), if_neg (by omega)]), (congrArg (fun w' => mP θ am ar w' N) (by unfold itW; rw [if_pos (by clear C hκ hκl; unfold itB; simp_all <;> omega)]; subst_vars; rfl))⟩
              · skip
                refine z_bipush C 87 dX7_item_85 (by decide) rfl ?_
                refine z_iload C 89 5 dX7_item_87 rfl rfl ?_
                refine z_isub C 90 dX7_item_89 rfl ?_
                exact z_iret C dX7_item_90 rfl (Nat.le_of_ble_eq_true rfl) (Nat.le_of_ble_eq_true rfl) ⟨congrArg (fun z => some (Value.int (iI z))) (by clear C hκ hκl hS hB hB1 hB2 hB3 hB4 hB5 hB6 hC hD hw ya yb yc yd ye yf yg yh f20a f20b f20c f21a f21b f21c f21d f21e f21f f21g f21h; unfold itI; rw [if_neg (by unfold itB; simp_all <;> omega)]; unfold itE; first | (simp_all; done) | grind), (congrArg (fun w' => mP θ am ar w' N) (by clear C hκ hκl hS hB hB1 hB2 hB3 hB4 hB5 hB6 hC hD hw ya yb yc yd ye yf yg yh f20a f20b f20c f21a f21b f21c f21d f21e f21f f21g f21h; unfold itW; rw [if_neg]; unfold itE; first | (simp_all; done) | grind))⟩
            · skip
              refine z_iconst C 73 dX7_item_72 rfl ?_
              refine z_goto C 78 dX7_item_73 (by decide) ?_
              refine z_istore (lv' := [(0, .ref (am)), (1, .int (iI (x))), (2, .int (iI (i))), (3, .int (iI (a))), (4, .int (iI (s))), (5, .int (iI (2)))]) C 80 [1, 2, 3, 4, 5, 0] dX7_item_78 (by decide) rfl rfl ?_
              refine z_iload C 82 5 dX7_item_80 rfl rfl ?_
              refine z_if_le C 91 85 dX7_item_82 (by decide) ⟨by decide, by decide⟩ rfl (fun c24 => absurd c24 (by decide)) (fun c24 => ?_)
              refine z_bipush C 87 dX7_item_85 (by decide) rfl ?_
              refine z_iload C 89 5 dX7_item_87 rfl rfl ?_
              refine z_isub C 90 dX7_item_89 rfl ?_
              exact z_iret C dX7_item_90 rfl (Nat.le_of_ble_eq_true rfl) (Nat.le_of_ble_eq_true rfl) ⟨congrArg (fun z => some (Value.int (iI z))) (by clear C hκ hκl hS hB hB1 hB2 hB3 hB4 hB5 hB6 hC hD hw ya yb yc yd ye yf yg yh f20a f20b f20c f21a f21b f21c f21d f21e f21f f21g f21h; unfold itI; rw [if_neg (by unfold itB; simp_all <;> omega)]; unfold itE; first | (simp_all; done) | grind), (congrArg (fun w' => mP θ am ar w' N) (by clear C hκ hκl hS hB hB1 hB2 hB3 hB4 hB5 hB6 hC hD hw ya yb yc yd ye yf yg yh f20a f20b f20c f21a f21b f21c f21d f21e f21f f21g f21h; unfold itW; rw [if_neg]; unfold itE; first | (simp_all; done) | grind))⟩
      · skip
        have c3b : ¬ (0 ≤ (s) ∧ (s) < 8) := of_decide_eq_false c3
        refine z_iconst C 29 dX7_item_28 rfl ?_
        exact z_iret C dX7_item_29 rfl (Nat.le_of_ble_eq_true rfl) (Nat.le_of_ble_eq_true rfl) ⟨congrArg (fun z => some (Value.int (iI z))) (by clear C hκ hκl hS hB hB1 hB2 hB3 hB4 hB5 hB6 hC hD hw; unfold itI; rw [if_pos]; unfold itB; first | (simp_all; done) | grind), (congrArg (fun w' => mP θ am ar w' N) (by clear C hκ hκl hS hB hB1 hB2 hB3 hB4 hB5 hB6 hC hD hw; unfold itW; rw [if_neg]; unfold itB; first | (simp_all; done) | grind))⟩
set_option maxRecDepth 100000 in
theorem k7_put {l : Launch} {θ : zTh} {N : zMap} {am : Nat} {ar : Nat → Nat} {w : mW} (hD : mDis am ar) (hw : mWF w) (x : Int) (i : Int) (s : Int) (r_x : inR x) (r_i : inR i) (r_s : inR s) (hS : mS w) (hV : mV w) : ZF θ l yX7_put cX7_put 5 (some .int) ⟨3, 0, 0, 75⟩ [.ref (am), .int (iI (x)), .int (iI (i)), .int (iI (s))] (mP θ am ar w N) (some (.int (iI (puI w x i s)))) (mP θ am ar (puW w x i s) N) := by
  refine z_start (own := RX7) (nm := "put") pnX7 rfl rfl (Nat.le_of_ble_eq_true rfl) ?_
  intro κ hκ hκl C
  change Z κ (mP θ am ar w N) 0 0 0 [(0, .ref (am)), (1, .int (iI (x))), (2, .int (iI (i))), (3, .int (iI (s)))] []
  have hB := hS.B
  obtain ⟨hB1, hB2, hB3, hB4, hB5, hB6⟩ := hS.B
  have hC := hS.C
  refine z_aload_n C 1 0 dX7_put_0 rfl rfl ?_
  refine z_iload_n C 2 1 dX7_put_1 rfl rfl ?_
  refine z_callVF (n' := 0) (k' := 0) (As := [.int (iI (x))]) (rest := []) C hκ hκl 5 (k7_isThingOrNone hD hw (x) r_x hB) dX7_put_2 q2345 q2347 qs63 q97 q2348 znX7_isThingOrNone (Nat.le_of_ble_eq_true rfl) (Nat.le_of_ble_eq_true rfl) (Nat.le_of_ble_eq_true rfl) (Nat.le_of_ble_eq_true rfl) mrec rfl rfl (Nat.le_of_ble_eq_true rfl) rfl rfl rfl ?_
  refine z_ifB_eq C 15 8 dX7_put_5 (by decide) rfl (fun c1 => ?_) (fun c1 => ?_)
  · skip
    have c1b : ¬ ((x) = -1 ∨ (0 ≤ (x) ∧ (x) < w 27 0)) := of_decide_eq_false c1
    refine z_iconst C 16 dX7_put_15 rfl ?_
    exact z_iret C dX7_put_16 rfl (Nat.le_of_ble_eq_true rfl) (Nat.le_of_ble_eq_true rfl) ⟨congrArg (fun z => some (Value.int (iI z))) (by clear C hκ hκl hS hB hB1 hB2 hB3 hB4 hB5 hB6 hC hD hw; unfold puI; rw [if_pos]; unfold puB; first | (simp_all; done) | grind), (congrArg (fun w' => mP θ am ar w' N) (by clear C hκ hκl hS hB hB1 hB2 hB3 hB4 hB5 hB6 hC hD hw; unfold puW; rw [if_neg]; unfold puB; first | (simp_all; done) | grind))⟩
  · skip
    have c1b : ((x) = -1 ∨ (0 ≤ (x) ∧ (x) < w 27 0)) := of_decide_eq_true c1
    refine z_iload_n C 9 3 dX7_put_8 rfl rfl ?_
    refine z_callSF (n' := 0) (k' := 0) (As := [.int (iI (s))]) (rest := []) C hκ hκl 12 (k7_isSlot (s) r_s) dX7_put_9 q2377 q2378 q97 q2379 znX7_isSlot (Nat.le_of_ble_eq_true rfl) (Nat.le_of_ble_eq_true rfl) (Nat.le_of_ble_eq_true rfl) (Nat.le_of_ble_eq_true rfl) rfl (Nat.le_of_ble_eq_true rfl) rfl rfl rfl ?_
    refine z_ifB_ne C 17 15 dX7_put_12 (by decide) rfl (fun c2 => ?_) (fun c2 => ?_)
    · skip
      have c2b : (0 ≤ (s) ∧ (s) < 8) := of_decide_eq_true c2
      refine z_aload_n C 18 0 dX7_put_17 rfl rfl ?_
      refine z_iload_n C 19 1 dX7_put_18 rfl rfl ?_
      refine z_iload_n C 20 2 dX7_put_19 rfl rfl ?_
      refine z_aload_n C 21 0 dX7_put_20 rfl rfl ?_
      refine m_geta C hκ 24 32 (by decide) rfl q2027 rfl dX7_put_21 rfl ?_
      refine z_iload_n C 25 3 dX7_put_24 rfl rfl ?_
      obtain ⟨f3a, f3b⟩ := hS.L (show 0 ≤ s by omega) (by omega)
      refine m_iald (len := 8) C hκ hD 26 32 (by decide) rfl rfl (by omega) (by omega) dX7_put_25 rfl ?_
      refine z_bipush C 28 dX7_put_26 (by decide) rfl ?_
      refine z_icmp_ge C 35 31 dX7_put_28 (by decide) (hw.r _ _ rfl) ⟨by decide, by decide⟩ rfl (fun c4 => ?_) (fun c4 => ?_)
      · skip
        refine z_iconst C 36 dX7_put_35 rfl ?_
        refine z_callVF (n' := 0) (k' := 0) (As := [.int (iI (x)), .int (iI (i)), .int (iI (0))]) (rest := []) C hκ hκl 39 (k7_againstItem hD hw (x) (i) (false) r_x r_i hS (by omega)) dX7_put_36 q2473 q2475 qs74 q97 q2476 znX7_againstItem (Nat.le_of_ble_eq_true rfl) (Nat.le_of_ble_eq_true rfl) (Nat.le_of_ble_eq_true rfl) (Nat.le_of_ble_eq_true rfl) mrec rfl rfl (Nat.le_of_ble_eq_true rfl) rfl rfl rfl ?_
        have h5 := aiI_r (w := w) (x := x) (i := i) (p := false)
        refine z_istore (lv' := [(0, .ref (am)), (1, .int (iI (x))), (2, .int (iI (i))), (3, .int (iI (s))), (4, .int (iI (aiI w (x) (i) (false))))]) C 41 [1, 2, 3, 4, 0] dX7_put_39 (by decide) rfl rfl ?_
        refine z_iload C 43 4 dX7_put_41 rfl rfl ?_
        refine z_if_ne C 69 46 dX7_put_43 (by decide) ⟨by omega, by omega⟩ rfl (fun c6 => ?_) (fun c6 => ?_)
        · skip
          refine z_iload C 71 4 dX7_put_69 rfl rfl ?_
          refine z_istore (lv' := [(0, .ref (am)), (1, .int (iI (x))), (2, .int (iI (i))), (3, .int (iI (s))), (4, .int (iI (aiI w (x) (i) (false))))]) C 73 [1, 2, 3, 4, 0] dX7_put_71 (by decide) rfl rfl ?_
          refine z_iload C 75 4 dX7_put_73 rfl rfl ?_
          refine z_if_le C 84 78 dX7_put_75 (by decide) ⟨by omega, by omega⟩ rfl (fun c7 => ?_) (fun c7 => ?_)
          · skip
            have hE : puE w x i s = 0 := by clear C hκ hκl; unfold puE; first | (simp_all; done) | grind
            have hai : aiI w x i (decide (w 32 s < 8)) = 0 := by clear C hκ hκl; unfold puE at hE; split at hE; assumption; assumption
            obtain ⟨i1, i2, i3, i4, i5⟩ := aiI_0 hai
            obtain ⟨xa, xb, xc⟩ := hS.X (show 0 ≤ x by omega) (by omega)
            refine z_aload_n C 85 0 dX7_put_84 rfl rfl ?_
            refine m_geta C hκ 88 31 (by decide) rfl q2026 rfl dX7_put_85 rfl ?_
            refine z_bipush C 90 dX7_put_88 (by decide) rfl ?_
            refine z_iload_n C 91 1 dX7_put_90 rfl rfl ?_
            refine z_imul C 92 dX7_put_91 rfl ?_
            refine z_iload_n C 93 2 dX7_put_92 rfl rfl ?_
            refine z_iadd C 94 dX7_put_93 rfl ?_
            refine z_aload_n C 95 0 dX7_put_94 rfl rfl ?_
            refine m_geta C hκ 98 33 (by decide) rfl q2028 rfl dX7_put_95 rfl ?_
            refine z_iload_n C 99 3 dX7_put_98 rfl rfl ?_
            refine m_lald (len := 8) C hκ hD 100 33 (by decide) rfl rfl (by omega) (by omega) dX7_put_99 rfl ?_
            refine z_aload_n C 101 0 dX7_put_100 rfl rfl ?_
            refine m_geta C hκ 104 32 (by decide) rfl q2027 rfl dX7_put_101 rfl ?_
            refine z_iload_n C 105 3 dX7_put_104 rfl rfl ?_
            refine m_iald (len := 8) C hκ hD 106 32 (by decide) rfl rfl (by omega) (by omega) dX7_put_105 rfl ?_
            refine z_aload_n C 107 0 dX7_put_106 rfl rfl ?_
            refine m_geta C hκ 110 4 (by decide) rfl q1999 rfl dX7_put_107 rfl ?_
            refine z_aload_n C 111 0 dX7_put_110 rfl rfl ?_
            refine m_geta C hκ 114 28 (by decide) rfl q2023 rfl dX7_put_111 rfl ?_
            refine z_iload_n C 115 1 dX7_put_114 rfl rfl ?_
            obtain ⟨f8a, f8b, f8c⟩ := hS.X (show 0 ≤ x by omega) (by omega)
            refine m_iald (len := 80) C hκ hD 116 28 (by decide) rfl rfl (by omega) (by omega) dX7_put_115 rfl ?_
            obtain ⟨f9a, f9b, f9c, f9d, f9e, f9f, f9g, f9h⟩ := hS.T (show 0 ≤ w 28 (x) by omega) (by omega)
            refine m_iald (len := 60) C hκ hD 117 4 (by decide) rfl rfl (by omega) (by omega) dX7_put_116 rfl ?_
            refine z_callSF (n' := 0) (k' := 0) (As := [.long (lI (w 33 (s))), .int (iI (w 32 (s))), .int (iI (w 4 (w 28 (x))))]) (rest := [.int (iI (((20) * (x)) + (i))), .ref (ar 31)]) C hκ hκl 120 (k7_widened (w 33 (s)) (w 32 (s)) (w 4 (w 28 (x))) (hw.l _ _) (hw.r _ _ rfl) (hw.r _ _ rfl) (ft6 (hV.1 s (by omega) (by omega)))) dX7_put_117 q2428 q2429 q97 q2430 znX7_widened (Nat.le_of_ble_eq_true rfl) (Nat.le_of_ble_eq_true rfl) (Nat.le_of_ble_eq_true rfl) (Nat.le_of_ble_eq_true rfl) rfl (Nat.le_of_ble_eq_true rfl) rfl rfl rfl ?_
            obtain ⟨w1, ew1⟩ : ∃ wz, mset w 31 (((20) * (x)) + (i)) (wdL (w 33 (s)) (w 32 (s)) (w 4 (w 28 (x)))) = wz := ⟨_, rfl⟩
            have hw1 : mWF w1 := ew1 ▸ hw.setL (wdL_L (hw.l _ _)) rfl rfl
            refine m_last (len := 1600) (w' := w1) C hκ hD 121 31 (by decide) rfl rfl (by omega) (by omega) dX7_put_120 rfl ew1 ?_
            refine z_iconst C 122 dX7_put_121 rfl ?_
            exact z_iret C dX7_put_122 rfl (Nat.le_of_ble_eq_true rfl) (Nat.le_of_ble_eq_true rfl) ⟨congrArg (fun z => some (Value.int (iI z))) (by unfold puI; rw [if_neg (by clear C hκ hκl; unfold puB; simp_all <;> omega), if_neg (by omega)]), (congrArg (fun w' => mP θ am ar w' N) (by unfold puW; rw [if_pos (by clear C hκ hκl; unfold puB; simp_all <;> omega)]; subst_vars; rfl))⟩
          · skip
            refine z_bipush C 80 dX7_put_78 (by decide) rfl ?_
            refine z_iload C 82 4 dX7_put_80 rfl rfl ?_
            refine z_isub C 83 dX7_put_82 rfl ?_
            exact z_iret C dX7_put_83 rfl (Nat.le_of_ble_eq_true rfl) (Nat.le_of_ble_eq_true rfl) ⟨congrArg (fun z => some (Value.int (iI z))) (by clear C hκ hκl hS hB hB1 hB2 hB3 hB4 hB5 hB6 hC hD hw f3a f3b; unfold puI; rw [if_neg (by unfold puB; simp_all <;> omega)]; unfold puE; first | (simp_all; done) | grind), (congrArg (fun w' => mP θ am ar w' N) (by clear C hκ hκl hS hB hB1 hB2 hB3 hB4 hB5 hB6 hC hD hw f3a f3b; unfold puW; rw [if_neg]; unfold puE; first | (simp_all; done) | grind))⟩
        · skip
          have hai0 : aiI w (x) (i) (false) = 0 := by omega
          obtain ⟨i1, i2, i3, i4, i5⟩ := aiI_0 hai0
          obtain ⟨xa, xb, xc⟩ := hS.X (show 0 ≤ x by omega) (by omega)
          have yy := hS.T (show 0 ≤ w 28 x by omega) (by omega)
          obtain ⟨ya, yb, yc, yd, ye, yf, yg, yh⟩ := yy
          refine z_aload_n C 47 0 dX7_put_46 rfl rfl ?_
          refine z_iload_n C 48 3 dX7_put_47 rfl rfl ?_
          refine z_aload_n C 49 0 dX7_put_48 rfl rfl ?_
          refine m_geta C hκ 52 4 (by decide) rfl q1999 rfl dX7_put_49 rfl ?_
          refine z_aload_n C 53 0 dX7_put_52 rfl rfl ?_
          refine m_geta C hκ 56 28 (by decide) rfl q2023 rfl dX7_put_53 rfl ?_
          refine z_iload_n C 57 1 dX7_put_56 rfl rfl ?_
          obtain ⟨f10a, f10b, f10c⟩ := hS.X (show 0 ≤ x by omega) (by omega)
          refine m_iald (len := 80) C hκ hD 58 28 (by decide) rfl rfl (by omega) (by omega) dX7_put_57 rfl ?_
          obtain ⟨f11a, f11b, f11c, f11d, f11e, f11f, f11g, f11h⟩ := hS.T (show 0 ≤ w 28 (x) by omega) (by omega)
          refine m_iald (len := 60) C hκ hD 59 4 (by decide) rfl rfl (by omega) (by omega) dX7_put_58 rfl ?_
          refine z_callVF (n' := 0) (k' := 0) (As := [.int (iI (s)), .int (iI (w 4 (w 28 (x))))]) (rest := []) C hκ hκl 62 (k7_slotGoes hD hw (s) (w 4 (w 28 (x))) r_s (hw.r _ _ rfl) hS (by omega) (by omega)) dX7_put_59 q2461 q2463 qs72 q97 q2464 znX7_slotGoes (Nat.le_of_ble_eq_true rfl) (Nat.le_of_ble_eq_true rfl) (Nat.le_of_ble_eq_true rfl) (Nat.le_of_ble_eq_true rfl) mrec rfl rfl (Nat.le_of_ble_eq_true rfl) rfl rfl rfl ?_
          refine z_ifB_ne C 69 65 dX7_put_62 (by decide) rfl (fun c12 => ?_) (fun c12 => ?_)
          · skip
            refine z_iload C 71 4 dX7_put_69 rfl rfl ?_
            refine z_istore (lv' := [(0, .ref (am)), (1, .int (iI (x))), (2, .int (iI (i))), (3, .int (iI (s))), (4, .int (iI (aiI w (x) (i) (false))))]) C 73 [1, 2, 3, 4, 0] dX7_put_71 (by decide) rfl rfl ?_
            refine z_iload C 75 4 dX7_put_73 rfl rfl ?_
            refine z_if_le C 84 78 dX7_put_75 (by decide) ⟨by omega, by omega⟩ rfl (fun c13 => ?_) (fun c13 => ?_)
            · skip
              have hE : puE w x i s = 0 := by clear C hκ hκl; unfold puE; first | (simp_all; done) | grind
              have hai : aiI w x i (decide (w 32 s < 8)) = 0 := by clear C hκ hκl; unfold puE at hE; split at hE; assumption; assumption
              obtain ⟨i1, i2, i3, i4, i5⟩ := aiI_0 hai
              obtain ⟨xa, xb, xc⟩ := hS.X (show 0 ≤ x by omega) (by omega)
              refine z_aload_n C 85 0 dX7_put_84 rfl rfl ?_
              refine m_geta C hκ 88 31 (by decide) rfl q2026 rfl dX7_put_85 rfl ?_
              refine z_bipush C 90 dX7_put_88 (by decide) rfl ?_
              refine z_iload_n C 91 1 dX7_put_90 rfl rfl ?_
              refine z_imul C 92 dX7_put_91 rfl ?_
              refine z_iload_n C 93 2 dX7_put_92 rfl rfl ?_
              refine z_iadd C 94 dX7_put_93 rfl ?_
              refine z_aload_n C 95 0 dX7_put_94 rfl rfl ?_
              refine m_geta C hκ 98 33 (by decide) rfl q2028 rfl dX7_put_95 rfl ?_
              refine z_iload_n C 99 3 dX7_put_98 rfl rfl ?_
              refine m_lald (len := 8) C hκ hD 100 33 (by decide) rfl rfl (by omega) (by omega) dX7_put_99 rfl ?_
              refine z_aload_n C 101 0 dX7_put_100 rfl rfl ?_
              refine m_geta C hκ 104 32 (by decide) rfl q2027 rfl dX7_put_101 rfl ?_
              refine z_iload_n C 105 3 dX7_put_104 rfl rfl ?_
              refine m_iald (len := 8) C hκ hD 106 32 (by decide) rfl rfl (by omega) (by omega) dX7_put_105 rfl ?_
              refine z_aload_n C 107 0 dX7_put_106 rfl rfl ?_
              refine m_geta C hκ 110 4 (by decide) rfl q1999 rfl dX7_put_107 rfl ?_
              refine z_aload_n C 111 0 dX7_put_110 rfl rfl ?_
              refine m_geta C hκ 114 28 (by decide) rfl q2023 rfl dX7_put_111 rfl ?_
              refine z_iload_n C 115 1 dX7_put_114 rfl rfl ?_
              refine m_iald (len := 80) C hκ hD 116 28 (by decide) rfl rfl (by omega) (by omega) dX7_put_115 rfl ?_
              refine m_iald (len := 60) C hκ hD 117 4 (by decide) rfl rfl (by omega) (by omega) dX7_put_116 rfl ?_
              refine z_callSF (n' := 0) (k' := 0) (As := [.long (lI (w 33 (s))), .int (iI (w 32 (s))), .int (iI (w 4 (w 28 (x))))]) (rest := [.int (iI (((20) * (x)) + (i))), .ref (ar 31)]) C hκ hκl 120 (k7_widened (w 33 (s)) (w 32 (s)) (w 4 (w 28 (x))) (hw.l _ _) (hw.r _ _ rfl) (hw.r _ _ rfl) (ft6 (hV.1 s (by omega) (by omega)))) dX7_put_117 q2428 q2429 q97 q2430 znX7_widened (Nat.le_of_ble_eq_true rfl) (Nat.le_of_ble_eq_true rfl) (Nat.le_of_ble_eq_true rfl) (Nat.le_of_ble_eq_true rfl) rfl (Nat.le_of_ble_eq_true rfl) rfl rfl rfl ?_
              obtain ⟨w2, ew2⟩ : ∃ wz, mset w 31 (((20) * (x)) + (i)) (wdL (w 33 (s)) (w 32 (s)) (w 4 (w 28 (x)))) = wz := ⟨_, rfl⟩
              have hw2 : mWF w2 := ew2 ▸ hw.setL (wdL_L (hw.l _ _)) rfl rfl
              refine m_last (len := 1600) (w' := w2) C hκ hD 121 31 (by decide) rfl rfl (by omega) (by omega) dX7_put_120 rfl ew2 ?_
              refine z_iconst C 122 dX7_put_121 rfl ?_
              exact z_iret C dX7_put_122 rfl (Nat.le_of_ble_eq_true rfl) (Nat.le_of_ble_eq_true rfl) ⟨congrArg (fun z => some (Value.int (iI z))) (by unfold puI; rw [if_neg (by clear C hκ hκl; unfold puB; simp_all <;> omega), if_neg (by omega)]), (congrArg (fun w' => mP θ am ar w' N) (by unfold puW; rw [if_pos (by clear C hκ hκl; unfold puB; simp_all <;> omega)]; subst_vars; rfl))⟩
            · skip
              refine z_bipush C 80 dX7_put_78 (by decide) rfl ?_
              refine z_iload C 82 4 dX7_put_80 rfl rfl ?_
              refine z_isub C 83 dX7_put_82 rfl ?_
              exact z_iret C dX7_put_83 rfl (Nat.le_of_ble_eq_true rfl) (Nat.le_of_ble_eq_true rfl) ⟨congrArg (fun z => some (Value.int (iI z))) (by clear C hκ hκl hS hB hB1 hB2 hB3 hB4 hB5 hB6 hC hD hw f3a f3b ya yb yc yd ye yf yg yh f10a f10b f10c f11a f11b f11c f11d f11e f11f f11g f11h; unfold puI; rw [if_neg (by unfold puB; simp_all <;> omega)]; unfold puE; first | (simp_all; done) | grind), (congrArg (fun w' => mP θ am ar w' N) (by clear C hκ hκl hS hB hB1 hB2 hB3 hB4 hB5 hB6 hC hD hw f3a f3b ya yb yc yd ye yf yg yh f10a f10b f10c f11a f11b f11c f11d f11e f11f f11g f11h; unfold puW; rw [if_neg]; unfold puE; first | (simp_all; done) | grind))⟩
          · skip
            refine z_iconst C 66 dX7_put_65 rfl ?_
            refine z_goto C 71 dX7_put_66 (by decide) ?_
            refine z_istore (lv' := [(0, .ref (am)), (1, .int (iI (x))), (2, .int (iI (i))), (3, .int (iI (s))), (4, .int (iI (2)))]) C 73 [1, 2, 3, 4, 0] dX7_put_71 (by decide) rfl rfl ?_
            refine z_iload C 75 4 dX7_put_73 rfl rfl ?_
            refine z_if_le C 84 78 dX7_put_75 (by decide) ⟨by decide, by decide⟩ rfl (fun c14 => absurd c14 (by decide)) (fun c14 => ?_)
            refine z_bipush C 80 dX7_put_78 (by decide) rfl ?_
            refine z_iload C 82 4 dX7_put_80 rfl rfl ?_
            refine z_isub C 83 dX7_put_82 rfl ?_
            exact z_iret C dX7_put_83 rfl (Nat.le_of_ble_eq_true rfl) (Nat.le_of_ble_eq_true rfl) ⟨congrArg (fun z => some (Value.int (iI z))) (by clear C hκ hκl hS hB hB1 hB2 hB3 hB4 hB5 hB6 hC hD hw f3a f3b ya yb yc yd ye yf yg yh f10a f10b f10c f11a f11b f11c f11d f11e f11f f11g f11h; unfold puI; rw [if_neg (by unfold puB; simp_all <;> omega)]; unfold puE; first | (simp_all; done) | grind), (congrArg (fun w' => mP θ am ar w' N) (by clear C hκ hκl hS hB hB1 hB2 hB3 hB4 hB5 hB6 hC hD hw f3a f3b ya yb yc yd ye yf yg yh f10a f10b f10c f11a f11b f11c f11d f11e f11f f11g f11h; unfold puW; rw [if_neg]; unfold puE; first | (simp_all; done) | grind))⟩
      · skip
        refine z_iconst C 32 dX7_put_31 rfl ?_
        refine z_goto C 36 dX7_put_32 (by decide) ?_
        refine z_callVF (n' := 0) (k' := 0) (As := [.int (iI (x)), .int (iI (i)), .int (iI (1))]) (rest := []) C hκ hκl 39 (k7_againstItem hD hw (x) (i) (true) r_x r_i hS (by omega)) dX7_put_36 q2473 q2475 qs74 q97 q2476 znX7_againstItem (Nat.le_of_ble_eq_true rfl) (Nat.le_of_ble_eq_true rfl) (Nat.le_of_ble_eq_true rfl) (Nat.le_of_ble_eq_true rfl) mrec rfl rfl (Nat.le_of_ble_eq_true rfl) rfl rfl rfl ?_
        have h15 := aiI_r (w := w) (x := x) (i := i) (p := true)
        refine z_istore (lv' := [(0, .ref (am)), (1, .int (iI (x))), (2, .int (iI (i))), (3, .int (iI (s))), (4, .int (iI (aiI w (x) (i) (true))))]) C 41 [1, 2, 3, 4, 0] dX7_put_39 (by decide) rfl rfl ?_
        refine z_iload C 43 4 dX7_put_41 rfl rfl ?_
        refine z_if_ne C 69 46 dX7_put_43 (by decide) ⟨by omega, by omega⟩ rfl (fun c16 => ?_) (fun c16 => ?_)
        · skip
          refine z_iload C 71 4 dX7_put_69 rfl rfl ?_
          refine z_istore (lv' := [(0, .ref (am)), (1, .int (iI (x))), (2, .int (iI (i))), (3, .int (iI (s))), (4, .int (iI (aiI w (x) (i) (true))))]) C 73 [1, 2, 3, 4, 0] dX7_put_71 (by decide) rfl rfl ?_
          refine z_iload C 75 4 dX7_put_73 rfl rfl ?_
          refine z_if_le C 84 78 dX7_put_75 (by decide) ⟨by omega, by omega⟩ rfl (fun c17 => ?_) (fun c17 => ?_)
          · skip
            have hE : puE w x i s = 0 := by clear C hκ hκl; unfold puE; first | (simp_all; done) | grind
            have hai : aiI w x i (decide (w 32 s < 8)) = 0 := by clear C hκ hκl; unfold puE at hE; split at hE; assumption; assumption
            obtain ⟨i1, i2, i3, i4, i5⟩ := aiI_0 hai
            obtain ⟨xa, xb, xc⟩ := hS.X (show 0 ≤ x by omega) (by omega)
            refine z_aload_n C 85 0 dX7_put_84 rfl rfl ?_
            refine m_geta C hκ 88 31 (by decide) rfl q2026 rfl dX7_put_85 rfl ?_
            refine z_bipush C 90 dX7_put_88 (by decide) rfl ?_
            refine z_iload_n C 91 1 dX7_put_90 rfl rfl ?_
            refine z_imul C 92 dX7_put_91 rfl ?_
            refine z_iload_n C 93 2 dX7_put_92 rfl rfl ?_
            refine z_iadd C 94 dX7_put_93 rfl ?_
            refine z_aload_n C 95 0 dX7_put_94 rfl rfl ?_
            refine m_geta C hκ 98 33 (by decide) rfl q2028 rfl dX7_put_95 rfl ?_
            refine z_iload_n C 99 3 dX7_put_98 rfl rfl ?_
            refine m_lald (len := 8) C hκ hD 100 33 (by decide) rfl rfl (by omega) (by omega) dX7_put_99 rfl ?_
            refine z_aload_n C 101 0 dX7_put_100 rfl rfl ?_
            refine m_geta C hκ 104 32 (by decide) rfl q2027 rfl dX7_put_101 rfl ?_
            refine z_iload_n C 105 3 dX7_put_104 rfl rfl ?_
            refine m_iald (len := 8) C hκ hD 106 32 (by decide) rfl rfl (by omega) (by omega) dX7_put_105 rfl ?_
            refine z_aload_n C 107 0 dX7_put_106 rfl rfl ?_
            refine m_geta C hκ 110 4 (by decide) rfl q1999 rfl dX7_put_107 rfl ?_
            refine z_aload_n C 111 0 dX7_put_110 rfl rfl ?_
            refine m_geta C hκ 114 28 (by decide) rfl q2023 rfl dX7_put_111 rfl ?_
            refine z_iload_n C 115 1 dX7_put_114 rfl rfl ?_
            obtain ⟨f18a, f18b, f18c⟩ := hS.X (show 0 ≤ x by omega) (by omega)
            refine m_iald (len := 80) C hκ hD 116 28 (by decide) rfl rfl (by omega) (by omega) dX7_put_115 rfl ?_
            obtain ⟨f19a, f19b, f19c, f19d, f19e, f19f, f19g, f19h⟩ := hS.T (show 0 ≤ w 28 (x) by omega) (by omega)
            refine m_iald (len := 60) C hκ hD 117 4 (by decide) rfl rfl (by omega) (by omega) dX7_put_116 rfl ?_
            refine z_callSF (n' := 0) (k' := 0) (As := [.long (lI (w 33 (s))), .int (iI (w 32 (s))), .int (iI (w 4 (w 28 (x))))]) (rest := [.int (iI (((20) * (x)) + (i))), .ref (ar 31)]) C hκ hκl 120 (k7_widened (w 33 (s)) (w 32 (s)) (w 4 (w 28 (x))) (hw.l _ _) (hw.r _ _ rfl) (hw.r _ _ rfl) (ft6 (hV.1 s (by omega) (by omega)))) dX7_put_117 q2428 q2429 q97 q2430 znX7_widened (Nat.le_of_ble_eq_true rfl) (Nat.le_of_ble_eq_true rfl) (Nat.le_of_ble_eq_true rfl) (Nat.le_of_ble_eq_true rfl) rfl (Nat.le_of_ble_eq_true rfl) rfl rfl rfl ?_
            obtain ⟨w3, ew3⟩ : ∃ wz, mset w 31 (((20) * (x)) + (i)) (wdL (w 33 (s)) (w 32 (s)) (w 4 (w 28 (x)))) = wz := ⟨_, rfl⟩
            have hw3 : mWF w3 := ew3 ▸ hw.setL (wdL_L (hw.l _ _)) rfl rfl
            refine m_last (len := 1600) (w' := w3) C hκ hD 121 31 (by decide) rfl rfl (by omega) (by omega) dX7_put_120 rfl ew3 ?_
            refine z_iconst C 122 dX7_put_121 rfl ?_
            exact z_iret C dX7_put_122 rfl (Nat.le_of_ble_eq_true rfl) (Nat.le_of_ble_eq_true rfl) ⟨congrArg (fun z => some (Value.int (iI z))) (by unfold puI; rw [if_neg (by clear C hκ hκl; unfold puB; simp_all <;> omega), if_neg (by omega)]), (congrArg (fun w' => mP θ am ar w' N) (by unfold puW; rw [if_pos (by clear C hκ hκl; unfold puB; simp_all <;> omega)]; subst_vars; rfl))⟩
          · skip
            refine z_bipush C 80 dX7_put_78 (by decide) rfl ?_
            refine z_iload C 82 4 dX7_put_80 rfl rfl ?_
            refine z_isub C 83 dX7_put_82 rfl ?_
            exact z_iret C dX7_put_83 rfl (Nat.le_of_ble_eq_true rfl) (Nat.le_of_ble_eq_true rfl) ⟨congrArg (fun z => some (Value.int (iI z))) (by clear C hκ hκl hS hB hB1 hB2 hB3 hB4 hB5 hB6 hC hD hw f3a f3b; unfold puI; rw [if_neg (by unfold puB; simp_all <;> omega)]; unfold puE; first | (simp_all; done) | grind), (congrArg (fun w' => mP θ am ar w' N) (by clear C hκ hκl hS hB hB1 hB2 hB3 hB4 hB5 hB6 hC hD hw f3a f3b; unfold puW; rw [if_neg]; unfold puE; first | (simp_all; done) | grind))⟩
        · skip
          have hai0 : aiI w (x) (i) (true) = 0 := by omega
          obtain ⟨i1, i2, i3, i4, i5⟩ := aiI_0 hai0
          obtain ⟨xa, xb, xc⟩ := hS.X (show 0 ≤ x by omega) (by omega)
          have yy := hS.T (show 0 ≤ w 28 x by omega) (by omega)
          obtain ⟨ya, yb, yc, yd, ye, yf, yg, yh⟩ := yy
          refine z_aload_n C 47 0 dX7_put_46 rfl rfl ?_
          refine z_iload_n C 48 3 dX7_put_47 rfl rfl ?_
          refine z_aload_n C 49 0 dX7_put_48 rfl rfl ?_
          refine m_geta C hκ 52 4 (by decide) rfl q1999 rfl dX7_put_49 rfl ?_
          refine z_aload_n C 53 0 dX7_put_52 rfl rfl ?_
          refine m_geta C hκ 56 28 (by decide) rfl q2023 rfl dX7_put_53 rfl ?_
          refine z_iload_n C 57 1 dX7_put_56 rfl rfl ?_
          obtain ⟨f20a, f20b, f20c⟩ := hS.X (show 0 ≤ x by omega) (by omega)
          refine m_iald (len := 80) C hκ hD 58 28 (by decide) rfl rfl (by omega) (by omega) dX7_put_57 rfl ?_
          obtain ⟨f21a, f21b, f21c, f21d, f21e, f21f, f21g, f21h⟩ := hS.T (show 0 ≤ w 28 (x) by omega) (by omega)
          refine m_iald (len := 60) C hκ hD 59 4 (by decide) rfl rfl (by omega) (by omega) dX7_put_58 rfl ?_
          refine z_callVF (n' := 0) (k' := 0) (As := [.int (iI (s)), .int (iI (w 4 (w 28 (x))))]) (rest := []) C hκ hκl 62 (k7_slotGoes hD hw (s) (w 4 (w 28 (x))) r_s (hw.r _ _ rfl) hS (by omega) (by omega)) dX7_put_59 q2461 q2463 qs72 q97 q2464 znX7_slotGoes (Nat.le_of_ble_eq_true rfl) (Nat.le_of_ble_eq_true rfl) (Nat.le_of_ble_eq_true rfl) (Nat.le_of_ble_eq_true rfl) mrec rfl rfl (Nat.le_of_ble_eq_true rfl) rfl rfl rfl ?_
          refine z_ifB_ne C 69 65 dX7_put_62 (by decide) rfl (fun c22 => ?_) (fun c22 => ?_)
          · skip
            refine z_iload C 71 4 dX7_put_69 rfl rfl ?_
            refine z_istore (lv' := [(0, .ref (am)), (1, .int (iI (x))), (2, .int (iI (i))), (3, .int (iI (s))), (4, .int (iI (aiI w (x) (i) (true))))]) C 73 [1, 2, 3, 4, 0] dX7_put_71 (by decide) rfl rfl ?_
            refine z_iload C 75 4 dX7_put_73 rfl rfl ?_
            refine z_if_le C 84 78 dX7_put_75 (by decide) ⟨by omega, by omega⟩ rfl (fun c23 => ?_) (fun c23 => ?_)
            · skip
              have hE : puE w x i s = 0 := by clear C hκ hκl; unfold puE; first | (simp_all; done) | grind
              have hai : aiI w x i (decide (w 32 s < 8)) = 0 := by clear C hκ hκl; unfold puE at hE; split at hE; assumption; assumption
              obtain ⟨i1, i2, i3, i4, i5⟩ := aiI_0 hai
              obtain ⟨xa, xb, xc⟩ := hS.X (show 0 ≤ x by omega) (by omega)
              refine z_aload_n C 85 0 dX7_put_84 rfl rfl ?_
              refine m_geta C hκ 88 31 (by decide) rfl q2026 rfl dX7_put_85 rfl ?_
              refine z_bipush C 90 dX7_put_88 (by decide) rfl ?_
              refine z_iload_n C 91 1 dX7_put_90 rfl rfl ?_
              refine z_imul C 92 dX7_put_91 rfl ?_
              refine z_iload_n C 93 2 dX7_put_92 rfl rfl ?_
              refine z_iadd C 94 dX7_put_93 rfl ?_
              refine z_aload_n C 95 0 dX7_put_94 rfl rfl ?_
              refine m_geta C hκ 98 33 (by decide) rfl q2028 rfl dX7_put_95 rfl ?_
              refine z_iload_n C 99 3 dX7_put_98 rfl rfl ?_
              refine m_lald (len := 8) C hκ hD 100 33 (by decide) rfl rfl (by omega) (by omega) dX7_put_99 rfl ?_
              refine z_aload_n C 101 0 dX7_put_100 rfl rfl ?_
              refine m_geta C hκ 104 32 (by decide) rfl q2027 rfl dX7_put_101 rfl ?_
              refine z_iload_n C 105 3 dX7_put_104 rfl rfl ?_
              refine m_iald (len := 8) C hκ hD 106 32 (by decide) rfl rfl (by omega) (by omega) dX7_put_105 rfl ?_
              refine z_aload_n C 107 0 dX7_put_106 rfl rfl ?_
              refine m_geta C hκ 110 4 (by decide) rfl q1999 rfl dX7_put_107 rfl ?_
              refine z_aload_n C 111 0 dX7_put_110 rfl rfl ?_
              refine m_geta C hκ 114 28 (by decide) rfl q2023 rfl dX7_put_111 rfl ?_
              refine z_iload_n C 115 1 dX7_put_114 rfl rfl ?_
              refine m_iald (len := 80) C hκ hD 116 28 (by decide) rfl rfl (by omega) (by omega) dX7_put_115 rfl ?_
              refine m_iald (len := 60) C hκ hD 117 4 (by decide) rfl rfl (by omega) (by omega) dX7_put_116 rfl ?_
              refine z_callSF (n' := 0) (k' := 0) (As := [.long (lI (w 33 (s))), .int (iI (w 32 (s))), .int (iI (w 4 (w 28 (x))))]) (rest := [.int (iI (((20) * (x)) + (i))), .ref (ar 31)]) C hκ hκl 120 (k7_widened (w 33 (s)) (w 32 (s)) (w 4 (w 28 (x))) (hw.l _ _) (hw.r _ _ rfl) (hw.r _ _ rfl) (ft6 (hV.1 s (by omega) (by omega)))) dX7_put_117 q2428 q2429 q97 q2430 znX7_widened (Nat.le_of_ble_eq_true rfl) (Nat.le_of_ble_eq_true rfl) (Nat.le_of_ble_eq_true rfl) (Nat.le_of_ble_eq_true rfl) rfl (Nat.le_of_ble_eq_true rfl) rfl rfl rfl ?_
              obtain ⟨w4, ew4⟩ : ∃ wz, mset w 31 (((20) * (x)) + (i)) (wdL (w 33 (s)) (w 32 (s)) (w 4 (w 28 (x)))) = wz := ⟨_, rfl⟩
              have hw4 : mWF w4 := ew4 ▸ hw.setL (wdL_L (hw.l _ _)) rfl rfl
              refine m_last (len := 1600) (w' := w4) C hκ hD 121 31 (by decide) rfl rfl (by omega) (by omega) dX7_put_120 rfl ew4 ?_
              refine z_iconst C 122 dX7_put_121 rfl ?_
              exact z_iret C dX7_put_122 rfl (Nat.le_of_ble_eq_true rfl) (Nat.le_of_ble_eq_true rfl) ⟨congrArg (fun z => some (Value.int (iI z))) (by unfold puI; rw [if_neg (by clear C hκ hκl; unfold puB; simp_all <;> omega), if_neg (by omega)]), (congrArg (fun w' => mP θ am ar w' N) (by unfold puW; rw [if_pos (by clear C hκ hκl; unfold puB; simp_all <;> omega)]; subst_vars; rfl))⟩
            · skip
              refine z_bipush C 80 dX7_put_78 (by decide) rfl ?_
              refine z_iload C 82 4 dX7_put_80 rfl rfl ?_
              refine z_isub C 83 dX7_put_82 rfl ?_
              exact z_iret C dX7_put_83 rfl (Nat.le_of_ble_eq_true rfl) (Nat.le_of_ble_eq_true rfl) ⟨congrArg (fun z => some (Value.int (iI z))) (by clear C hκ hκl hS hB hB1 hB2 hB3 hB4 hB5 hB6 hC hD hw f3a f3b ya yb yc yd ye yf yg yh f20a f20b f20c f21a f21b f21c f21d f21e f21f f21g f21h; unfold puI; rw [if_neg (by unfold puB; simp_all <;> omega)]; unfold puE; first | (simp_all; done) | grind), (congrArg (fun w' => mP θ am ar w' N) (by clear C hκ hκl hS hB hB1 hB2 hB3 hB4 hB5 hB6 hC hD hw f3a f3b ya yb yc yd ye yf yg yh f20a f20b f20c f21a f21b f21c f21d f21e f21f f21g f21h; unfold puW; rw [if_neg]; unfold puE; first | (simp_all; done) | grind))⟩
          · skip
            refine z_iconst C 66 dX7_put_65 rfl ?_
            refine z_goto C 71 dX7_put_66 (by decide) ?_
            refine z_istore (lv' := [(0, .ref (am)), (1, .int (iI (x))), (2, .int (iI (i))), (3, .int (iI (s))), (4, .int (iI (2)))]) C 73 [1, 2, 3, 4, 0] dX7_put_71 (by decide) rfl rfl ?_
            refine z_iload C 75 4 dX7_put_73 rfl rfl ?_
            refine z_if_le C 84 78 dX7_put_75 (by decide) ⟨by decide, by decide⟩ rfl (fun c24 => absurd c24 (by decide)) (fun c24 => ?_)
            refine z_bipush C 80 dX7_put_78 (by decide) rfl ?_
            refine z_iload C 82 4 dX7_put_80 rfl rfl ?_
            refine z_isub C 83 dX7_put_82 rfl ?_
            exact z_iret C dX7_put_83 rfl (Nat.le_of_ble_eq_true rfl) (Nat.le_of_ble_eq_true rfl) ⟨congrArg (fun z => some (Value.int (iI z))) (by clear C hκ hκl hS hB hB1 hB2 hB3 hB4 hB5 hB6 hC hD hw f3a f3b ya yb yc yd ye yf yg yh f20a f20b f20c f21a f21b f21c f21d f21e f21f f21g f21h; unfold puI; rw [if_neg (by unfold puB; simp_all <;> omega)]; unfold puE; first | (simp_all; done) | grind), (congrArg (fun w' => mP θ am ar w' N) (by clear C hκ hκl hS hB hB1 hB2 hB3 hB4 hB5 hB6 hC hD hw f3a f3b ya yb yc yd ye yf yg yh f20a f20b f20c f21a f21b f21c f21d f21e f21f f21g f21h; unfold puW; rw [if_neg]; unfold puE; first | (simp_all; done) | grind))⟩
    · skip
      have c2b : ¬ (0 ≤ (s) ∧ (s) < 8) := of_decide_eq_false c2
      refine z_iconst C 16 dX7_put_15 rfl ?_
      exact z_iret C dX7_put_16 rfl (Nat.le_of_ble_eq_true rfl) (Nat.le_of_ble_eq_true rfl) ⟨congrArg (fun z => some (Value.int (iI z))) (by clear C hκ hκl hS hB hB1 hB2 hB3 hB4 hB5 hB6 hC hD hw; unfold puI; rw [if_pos]; unfold puB; first | (simp_all; done) | grind), (congrArg (fun w' => mP θ am ar w' N) (by clear C hκ hκl hS hB hB1 hB2 hB3 hB4 hB5 hB6 hC hD hw; unfold puW; rw [if_neg]; unfold puB; first | (simp_all; done) | grind))⟩
set_option maxRecDepth 100000 in
theorem k7_store {l : Launch} {θ : zTh} {N : zMap} {am : Nat} {ar : Nat → Nat} {w : mW} (hD : mDis am ar) (hw : mWF w) (x : Int) (i : Int) (s : Int) (r_x : inR x) (r_i : inR i) (r_s : inR s) (hS : mS w) (hV : mV w) : ZF θ l yX7_store cX7_store 5 (some .int) ⟨3, 0, 0, 67⟩ [.ref (am), .int (iI (x)), .int (iI (i)), .int (iI (s))] (mP θ am ar w N) (some (.int (iI (soI w x i s)))) (mP θ am ar (soW w x i s) N) := by
  refine z_start (own := RX7) (nm := "store") pnX7 rfl rfl (Nat.le_of_ble_eq_true rfl) ?_
  intro κ hκ hκl C
  change Z κ (mP θ am ar w N) 0 0 0 [(0, .ref (am)), (1, .int (iI (x))), (2, .int (iI (i))), (3, .int (iI (s)))] []
  have hB := hS.B
  obtain ⟨hB1, hB2, hB3, hB4, hB5, hB6⟩ := hS.B
  have hC := hS.C
  refine z_aload_n C 1 0 dX7_store_0 rfl rfl ?_
  refine z_iload_n C 2 1 dX7_store_1 rfl rfl ?_
  refine z_callVF (n' := 0) (k' := 0) (As := [.int (iI (x))]) (rest := []) C hκ hκl 5 (k7_isThingOrNone hD hw (x) r_x hB) dX7_store_2 q2345 q2347 qs63 q97 q2348 znX7_isThingOrNone (Nat.le_of_ble_eq_true rfl) (Nat.le_of_ble_eq_true rfl) (Nat.le_of_ble_eq_true rfl) (Nat.le_of_ble_eq_true rfl) mrec rfl rfl (Nat.le_of_ble_eq_true rfl) rfl rfl rfl ?_
  refine z_ifB_eq C 26 8 dX7_store_5 (by decide) rfl (fun c1 => ?_) (fun c1 => ?_)
  · skip
    have c1b : ¬ ((x) = -1 ∨ (0 ≤ (x) ∧ (x) < w 27 0)) := of_decide_eq_false c1
    refine z_iconst C 27 dX7_store_26 rfl ?_
    exact z_iret C dX7_store_27 rfl (Nat.le_of_ble_eq_true rfl) (Nat.le_of_ble_eq_true rfl) ⟨congrArg (fun z => some (Value.int (iI z))) (by clear C hκ hκl hS hB hB1 hB2 hB3 hB4 hB5 hB6 hC hD hw; unfold soI; rw [if_pos]; unfold soB; first | (simp_all; done) | grind), (congrArg (fun w' => mP θ am ar w' N) (by clear C hκ hκl hS hB hB1 hB2 hB3 hB4 hB5 hB6 hC hD hw; unfold soW; rw [if_neg]; unfold soB; first | (simp_all; done) | grind))⟩
  · skip
    have c1b : ((x) = -1 ∨ (0 ≤ (x) ∧ (x) < w 27 0)) := of_decide_eq_true c1
    refine z_iload_n C 9 3 dX7_store_8 rfl rfl ?_
    refine z_callSF (n' := 0) (k' := 0) (As := [.int (iI (s))]) (rest := []) C hκ hκl 12 (k7_isSlot (s) r_s) dX7_store_9 q2377 q2378 q97 q2379 znX7_isSlot (Nat.le_of_ble_eq_true rfl) (Nat.le_of_ble_eq_true rfl) (Nat.le_of_ble_eq_true rfl) (Nat.le_of_ble_eq_true rfl) rfl (Nat.le_of_ble_eq_true rfl) rfl rfl rfl ?_
    refine z_ifB_eq C 26 15 dX7_store_12 (by decide) rfl (fun c2 => ?_) (fun c2 => ?_)
    · skip
      have c2b : ¬ (0 ≤ (s) ∧ (s) < 8) := of_decide_eq_false c2
      refine z_iconst C 27 dX7_store_26 rfl ?_
      exact z_iret C dX7_store_27 rfl (Nat.le_of_ble_eq_true rfl) (Nat.le_of_ble_eq_true rfl) ⟨congrArg (fun z => some (Value.int (iI z))) (by clear C hκ hκl hS hB hB1 hB2 hB3 hB4 hB5 hB6 hC hD hw; unfold soI; rw [if_pos]; unfold soB; first | (simp_all; done) | grind), (congrArg (fun w' => mP θ am ar w' N) (by clear C hκ hκl hS hB hB1 hB2 hB3 hB4 hB5 hB6 hC hD hw; unfold soW; rw [if_neg]; unfold soB; first | (simp_all; done) | grind))⟩
    · skip
      have c2b : (0 ≤ (s) ∧ (s) < 8) := of_decide_eq_true c2
      refine z_aload_n C 16 0 dX7_store_15 rfl rfl ?_
      refine m_geta C hκ 19 32 (by decide) rfl q2027 rfl dX7_store_16 rfl ?_
      refine z_iload_n C 20 3 dX7_store_19 rfl rfl ?_
      obtain ⟨f3a, f3b⟩ := hS.L (show 0 ≤ s by omega) (by omega)
      refine m_iald (len := 8) C hκ hD 21 32 (by decide) rfl rfl (by omega) (by omega) dX7_store_20 rfl ?_
      refine z_bipush C 23 dX7_store_21 (by decide) rfl ?_
      refine z_icmp_ge C 28 26 dX7_store_23 (by decide) (hw.r _ _ rfl) ⟨by decide, by decide⟩ rfl (fun c4 => ?_) (fun c4 => ?_)
      · skip
        refine z_aload_n C 29 0 dX7_store_28 rfl rfl ?_
        refine z_iload_n C 30 1 dX7_store_29 rfl rfl ?_
        refine z_iload_n C 31 2 dX7_store_30 rfl rfl ?_
        refine z_iconst C 32 dX7_store_31 rfl ?_
        refine z_callVF (n' := 0) (k' := 0) (As := [.int (iI (x)), .int (iI (i)), .int (iI (0))]) (rest := []) C hκ hκl 35 (k7_againstItem hD hw (x) (i) (false) r_x r_i hS (by omega)) dX7_store_32 q2473 q2475 qs74 q97 q2476 znX7_againstItem (Nat.le_of_ble_eq_true rfl) (Nat.le_of_ble_eq_true rfl) (Nat.le_of_ble_eq_true rfl) (Nat.le_of_ble_eq_true rfl) mrec rfl rfl (Nat.le_of_ble_eq_true rfl) rfl rfl rfl ?_
        have h5 := aiI_r (w := w) (x := x) (i := i) (p := false)
        refine z_istore (lv' := [(0, .ref (am)), (1, .int (iI (x))), (2, .int (iI (i))), (3, .int (iI (s))), (4, .int (iI (aiI w (x) (i) (false))))]) C 37 [1, 2, 3, 4, 0] dX7_store_35 (by decide) rfl rfl ?_
        refine z_iload C 39 4 dX7_store_37 rfl rfl ?_
        refine z_iconst C 40 dX7_store_39 rfl ?_
        refine z_icmp_ne C 48 43 dX7_store_40 (by decide) ⟨by omega, by omega⟩ ⟨by decide, by decide⟩ rfl (fun c6 => ?_) (fun c6 => ?_)
        · skip
          refine z_iload C 50 4 dX7_store_48 rfl rfl ?_
          refine z_if_ne C 76 53 dX7_store_50 (by decide) ⟨by omega, by omega⟩ rfl (fun c7 => ?_) (fun c7 => ?_)
          · skip
            refine z_iload C 78 4 dX7_store_76 rfl rfl ?_
            refine z_istore (lv' := [(0, .ref (am)), (1, .int (iI (x))), (2, .int (iI (i))), (3, .int (iI (s))), (4, .int (iI (aiI w (x) (i) (false))))]) C 80 [1, 2, 3, 4, 0] dX7_store_78 (by decide) rfl rfl ?_
            refine z_iload C 82 4 dX7_store_80 rfl rfl ?_
            refine z_if_le C 91 85 dX7_store_82 (by decide) ⟨by omega, by omega⟩ rfl (fun c8 => ?_) (fun c8 => ?_)
            · skip
              have hE : soE w x i s = 0 := by clear C hκ hκl; unfold soE; first | (simp_all; done) | grind
              have hai : aiI w x i false = 0 := by clear C hκ hκl; first | assumption | omega | (simp_all; done)
              obtain ⟨i1, i2, i3, i4, i5⟩ := aiI_0 hai
              obtain ⟨xa, xb, xc⟩ := hS.X (show 0 ≤ x by omega) (by omega)
              refine z_aload_n C 92 0 dX7_store_91 rfl rfl ?_
              refine m_geta C hκ 95 31 (by decide) rfl q2026 rfl dX7_store_92 rfl ?_
              refine z_bipush C 97 dX7_store_95 (by decide) rfl ?_
              refine z_iload_n C 98 1 dX7_store_97 rfl rfl ?_
              refine z_imul C 99 dX7_store_98 rfl ?_
              refine z_iload_n C 100 2 dX7_store_99 rfl rfl ?_
              refine z_iadd C 101 dX7_store_100 rfl ?_
              refine z_aload_n C 102 0 dX7_store_101 rfl rfl ?_
              refine m_geta C hκ 105 33 (by decide) rfl q2028 rfl dX7_store_102 rfl ?_
              refine z_iload_n C 106 3 dX7_store_105 rfl rfl ?_
              refine m_lald (len := 8) C hκ hD 107 33 (by decide) rfl rfl (by omega) (by omega) dX7_store_106 rfl ?_
              obtain ⟨w1, ew1⟩ : ∃ wz, mset w 31 (((20) * (x)) + (i)) (w 33 (s)) = wz := ⟨_, rfl⟩
              have hw1 : mWF w1 := ew1 ▸ hw.setL (hw.l _ _) rfl rfl
              refine m_last (len := 1600) (w' := w1) C hκ hD 108 31 (by decide) rfl rfl (by omega) (by omega) dX7_store_107 rfl ew1 ?_
              refine z_iconst C 109 dX7_store_108 rfl ?_
              exact z_iret C dX7_store_109 rfl (Nat.le_of_ble_eq_true rfl) (Nat.le_of_ble_eq_true rfl) ⟨congrArg (fun z => some (Value.int (iI z))) (by unfold soI; rw [if_neg (by clear C hκ hκl; unfold soB; simp_all <;> omega), if_neg (by omega)]), (congrArg (fun w' => mP θ am ar w' N) (by unfold soW; rw [if_pos (by clear C hκ hκl; unfold soB; simp_all <;> omega)]; subst_vars; rfl))⟩
            · skip
              refine z_bipush C 87 dX7_store_85 (by decide) rfl ?_
              refine z_iload C 89 4 dX7_store_87 rfl rfl ?_
              refine z_isub C 90 dX7_store_89 rfl ?_
              exact z_iret C dX7_store_90 rfl (Nat.le_of_ble_eq_true rfl) (Nat.le_of_ble_eq_true rfl) ⟨congrArg (fun z => some (Value.int (iI z))) (by clear C hκ hκl hS hB hB1 hB2 hB3 hB4 hB5 hB6 hC hD hw f3a f3b; unfold soI; rw [if_neg (by unfold soB; simp_all <;> omega)]; unfold soE; first | (simp_all; done) | grind), (congrArg (fun w' => mP θ am ar w' N) (by clear C hκ hκl hS hB hB1 hB2 hB3 hB4 hB5 hB6 hC hD hw f3a f3b; unfold soW; rw [if_neg]; unfold soE; first | (simp_all; done) | grind))⟩
          · skip
            have hai0 : aiI w (x) (i) (false) = 0 := by omega
            obtain ⟨i1, i2, i3, i4, i5⟩ := aiI_0 hai0
            obtain ⟨xa, xb, xc⟩ := hS.X (show 0 ≤ x by omega) (by omega)
            have yy := hS.T (show 0 ≤ w 28 x by omega) (by omega)
            obtain ⟨ya, yb, yc, yd, ye, yf, yg, yh⟩ := yy
            refine z_aload_n C 54 0 dX7_store_53 rfl rfl ?_
            refine z_iload_n C 55 3 dX7_store_54 rfl rfl ?_
            refine z_aload_n C 56 0 dX7_store_55 rfl rfl ?_
            refine m_geta C hκ 59 4 (by decide) rfl q1999 rfl dX7_store_56 rfl ?_
            refine z_aload_n C 60 0 dX7_store_59 rfl rfl ?_
            refine m_geta C hκ 63 28 (by decide) rfl q2023 rfl dX7_store_60 rfl ?_
            refine z_iload_n C 64 1 dX7_store_63 rfl rfl ?_
            obtain ⟨f9a, f9b, f9c⟩ := hS.X (show 0 ≤ x by omega) (by omega)
            refine m_iald (len := 80) C hκ hD 65 28 (by decide) rfl rfl (by omega) (by omega) dX7_store_64 rfl ?_
            obtain ⟨f10a, f10b, f10c, f10d, f10e, f10f, f10g, f10h⟩ := hS.T (show 0 ≤ w 28 (x) by omega) (by omega)
            refine m_iald (len := 60) C hκ hD 66 4 (by decide) rfl rfl (by omega) (by omega) dX7_store_65 rfl ?_
            refine z_callVF (n' := 0) (k' := 0) (As := [.int (iI (s)), .int (iI (w 4 (w 28 (x))))]) (rest := []) C hκ hκl 69 (k7_slotGoes hD hw (s) (w 4 (w 28 (x))) r_s (hw.r _ _ rfl) hS (by omega) (by omega)) dX7_store_66 q2461 q2463 qs72 q97 q2464 znX7_slotGoes (Nat.le_of_ble_eq_true rfl) (Nat.le_of_ble_eq_true rfl) (Nat.le_of_ble_eq_true rfl) (Nat.le_of_ble_eq_true rfl) mrec rfl rfl (Nat.le_of_ble_eq_true rfl) rfl rfl rfl ?_
            refine z_ifB_ne C 76 72 dX7_store_69 (by decide) rfl (fun c11 => ?_) (fun c11 => ?_)
            · skip
              refine z_iload C 78 4 dX7_store_76 rfl rfl ?_
              refine z_istore (lv' := [(0, .ref (am)), (1, .int (iI (x))), (2, .int (iI (i))), (3, .int (iI (s))), (4, .int (iI (aiI w (x) (i) (false))))]) C 80 [1, 2, 3, 4, 0] dX7_store_78 (by decide) rfl rfl ?_
              refine z_iload C 82 4 dX7_store_80 rfl rfl ?_
              refine z_if_le C 91 85 dX7_store_82 (by decide) ⟨by omega, by omega⟩ rfl (fun c12 => ?_) (fun c12 => ?_)
              · skip
                have hE : soE w x i s = 0 := by clear C hκ hκl; unfold soE; first | (simp_all; done) | grind
                have hai : aiI w x i false = 0 := by clear C hκ hκl; first | assumption | omega | (simp_all; done)
                obtain ⟨i1, i2, i3, i4, i5⟩ := aiI_0 hai
                obtain ⟨xa, xb, xc⟩ := hS.X (show 0 ≤ x by omega) (by omega)
                refine z_aload_n C 92 0 dX7_store_91 rfl rfl ?_
                refine m_geta C hκ 95 31 (by decide) rfl q2026 rfl dX7_store_92 rfl ?_
                refine z_bipush C 97 dX7_store_95 (by decide) rfl ?_
                refine z_iload_n C 98 1 dX7_store_97 rfl rfl ?_
                refine z_imul C 99 dX7_store_98 rfl ?_
                refine z_iload_n C 100 2 dX7_store_99 rfl rfl ?_
                refine z_iadd C 101 dX7_store_100 rfl ?_
                refine z_aload_n C 102 0 dX7_store_101 rfl rfl ?_
                refine m_geta C hκ 105 33 (by decide) rfl q2028 rfl dX7_store_102 rfl ?_
                refine z_iload_n C 106 3 dX7_store_105 rfl rfl ?_
                refine m_lald (len := 8) C hκ hD 107 33 (by decide) rfl rfl (by omega) (by omega) dX7_store_106 rfl ?_
                obtain ⟨w2, ew2⟩ : ∃ wz, mset w 31 (((20) * (x)) + (i)) (w 33 (s)) = wz := ⟨_, rfl⟩
                have hw2 : mWF w2 := ew2 ▸ hw.setL (hw.l _ _) rfl rfl
                refine m_last (len := 1600) (w' := w2) C hκ hD 108 31 (by decide) rfl rfl (by omega) (by omega) dX7_store_107 rfl ew2 ?_
                refine z_iconst C 109 dX7_store_108 rfl ?_
                exact z_iret C dX7_store_109 rfl (Nat.le_of_ble_eq_true rfl) (Nat.le_of_ble_eq_true rfl) ⟨congrArg (fun z => some (Value.int (iI z))) (by unfold soI; rw [if_neg (by clear C hκ hκl; unfold soB; simp_all <;> omega), if_neg (by omega)]), (congrArg (fun w' => mP θ am ar w' N) (by unfold soW; rw [if_pos (by clear C hκ hκl; unfold soB; simp_all <;> omega)]; subst_vars; rfl))⟩
              · skip
                refine z_bipush C 87 dX7_store_85 (by decide) rfl ?_
                refine z_iload C 89 4 dX7_store_87 rfl rfl ?_
                refine z_isub C 90 dX7_store_89 rfl ?_
                exact z_iret C dX7_store_90 rfl (Nat.le_of_ble_eq_true rfl) (Nat.le_of_ble_eq_true rfl) ⟨congrArg (fun z => some (Value.int (iI z))) (by clear C hκ hκl hS hB hB1 hB2 hB3 hB4 hB5 hB6 hC hD hw f3a f3b ya yb yc yd ye yf yg yh f9a f9b f9c f10a f10b f10c f10d f10e f10f f10g f10h; unfold soI; rw [if_neg (by unfold soB; simp_all <;> omega)]; unfold soE; first | (simp_all; done) | grind), (congrArg (fun w' => mP θ am ar w' N) (by clear C hκ hκl hS hB hB1 hB2 hB3 hB4 hB5 hB6 hC hD hw f3a f3b ya yb yc yd ye yf yg yh f9a f9b f9c f10a f10b f10c f10d f10e f10f f10g f10h; unfold soW; rw [if_neg]; unfold soE; first | (simp_all; done) | grind))⟩
            · skip
              refine z_iconst C 73 dX7_store_72 rfl ?_
              refine z_goto C 78 dX7_store_73 (by decide) ?_
              refine z_istore (lv' := [(0, .ref (am)), (1, .int (iI (x))), (2, .int (iI (i))), (3, .int (iI (s))), (4, .int (iI (4)))]) C 80 [1, 2, 3, 4, 0] dX7_store_78 (by decide) rfl rfl ?_
              refine z_iload C 82 4 dX7_store_80 rfl rfl ?_
              refine z_if_le C 91 85 dX7_store_82 (by decide) ⟨by decide, by decide⟩ rfl (fun c13 => absurd c13 (by decide)) (fun c13 => ?_)
              refine z_bipush C 87 dX7_store_85 (by decide) rfl ?_
              refine z_iload C 89 4 dX7_store_87 rfl rfl ?_
              refine z_isub C 90 dX7_store_89 rfl ?_
              exact z_iret C dX7_store_90 rfl (Nat.le_of_ble_eq_true rfl) (Nat.le_of_ble_eq_true rfl) ⟨congrArg (fun z => some (Value.int (iI z))) (by clear C hκ hκl hS hB hB1 hB2 hB3 hB4 hB5 hB6 hC hD hw f3a f3b ya yb yc yd ye yf yg yh f9a f9b f9c f10a f10b f10c f10d f10e f10f f10g f10h; unfold soI; rw [if_neg (by unfold soB; simp_all <;> omega)]; unfold soE; first | (simp_all; done) | grind), (congrArg (fun w' => mP θ am ar w' N) (by clear C hκ hκl hS hB hB1 hB2 hB3 hB4 hB5 hB6 hC hD hw f3a f3b ya yb yc yd ye yf yg yh f9a f9b f9c f10a f10b f10c f10d f10e f10f f10g f10h; unfold soW; rw [if_neg]; unfold soE; first | (simp_all; done) | grind))⟩
        · skip
          refine z_bipush C 45 dX7_store_43 (by decide) rfl ?_
          refine z_goto C 78 dX7_store_45 (by decide) ?_
          refine z_istore (lv' := [(0, .ref (am)), (1, .int (iI (x))), (2, .int (iI (i))), (3, .int (iI (s))), (4, .int (iI (8)))]) C 80 [1, 2, 3, 4, 0] dX7_store_78 (by decide) rfl rfl ?_
          refine z_iload C 82 4 dX7_store_80 rfl rfl ?_
          refine z_if_le C 91 85 dX7_store_82 (by decide) ⟨by decide, by decide⟩ rfl (fun c14 => absurd c14 (by decide)) (fun c14 => ?_)
          refine z_bipush C 87 dX7_store_85 (by decide) rfl ?_
          refine z_iload C 89 4 dX7_store_87 rfl rfl ?_
          refine z_isub C 90 dX7_store_89 rfl ?_
          exact z_iret C dX7_store_90 rfl (Nat.le_of_ble_eq_true rfl) (Nat.le_of_ble_eq_true rfl) ⟨congrArg (fun z => some (Value.int (iI z))) (by clear C hκ hκl hS hB hB1 hB2 hB3 hB4 hB5 hB6 hC hD hw f3a f3b; unfold soI; rw [if_neg (by unfold soB; simp_all <;> omega)]; unfold soE; first | (simp_all; done) | grind), (congrArg (fun w' => mP θ am ar w' N) (by clear C hκ hκl hS hB hB1 hB2 hB3 hB4 hB5 hB6 hC hD hw f3a f3b; unfold soW; rw [if_neg]; unfold soE; first | (simp_all; done) | grind))⟩
      · skip
        refine z_iconst C 27 dX7_store_26 rfl ?_
        exact z_iret C dX7_store_27 rfl (Nat.le_of_ble_eq_true rfl) (Nat.le_of_ble_eq_true rfl) ⟨congrArg (fun z => some (Value.int (iI z))) (by clear C hκ hκl hS hB hB1 hB2 hB3 hB4 hB5 hB6 hC hD hw f3a f3b; unfold soI; rw [if_pos]; unfold soB; first | (simp_all; done) | grind), (congrArg (fun w' => mP θ am ar w' N) (by clear C hκ hκl hS hB hB1 hB2 hB3 hB4 hB5 hB6 hC hD hw f3a f3b; unfold soW; rw [if_neg]; unfold soB; first | (simp_all; done) | grind))⟩
set_option maxRecDepth 100000 in
theorem k7_copy {l : Launch} {θ : zTh} {N : zMap} {am : Nat} {ar : Nat → Nat} {w : mW} (hD : mDis am ar) (hw : mWF w) (a : Int) (i : Int) (b : Int) (j : Int) (n : Int) (r_a : inR a) (r_i : inR i) (r_b : inR b) (r_j : inR j) (r_n : inR n) (hS : mS w) (hV : mV w) : ZF θ l yX7_copy cX7_copy 9 (some .int) ⟨3, 0, 0, 67⟩ [.ref (am), .int (iI (a)), .int (iI (i)), .int (iI (b)), .int (iI (j)), .int (iI (n))] (mP θ am ar w N) (some (.int (iI (cpI w a i b j n)))) (mP θ am ar (cpW w a i b j n) N) := by
  refine z_start (own := RX7) (nm := "copy") pnX7 rfl rfl (Nat.le_of_ble_eq_true rfl) ?_
  intro κ hκ hκl C
  change Z κ (mP θ am ar w N) 0 0 0 [(0, .ref (am)), (1, .int (iI (a))), (2, .int (iI (i))), (3, .int (iI (b))), (4, .int (iI (j))), (5, .int (iI (n)))] []
  have hB := hS.B
  obtain ⟨hB1, hB2, hB3, hB4, hB5, hB6⟩ := hS.B
  have hC := hS.C
  have ri1 := r_i.1; have ri2 := r_i.2; have rj1 := r_j.1; have rj2 := r_j.2; have rn1 := r_n.1; have rn2 := r_n.2
  have L156_1 : ∀ (fu : Nat)  (hG2 : tnB w a = true) (hG3 : tnB w b = true) (hE : cpE w a i b j n = 0) (hG : (0 ≤ a ∧ a < w 27 0) ∧ (0 ≤ b ∧ b < w 27 0) ∧ 0 ≤ i ∧ 0 ≤ j ∧ 0 ≤ n ∧ i + n ≤ w 29 a ∧ j + n ≤ w 29 b ∧ w 29 a ≠ -1 ∧ (8 ≤ w 4 (w 28 b) → 8 ≤ w 4 (w 28 a))) (hme : 0 < fu), Z κ (mP θ am ar w N) 0 0 156 [(0, .ref (am)), (1, .int (iI (a))), (2, .int (iI (i))), (3, .int (iI (b))), (4, .int (iI (j))), (5, .int (iI (n))), (6, .int (iI (w 4 (w 28 (a))))), (7, .int (iI (w 4 (w 28 (b)))))] [] := by
    intro fu
    induction fu with
    | zero => intro hG2 hG3 hE hG hme; exact absurd hme (Nat.not_lt_zero _)
    | succ fu ih2 =>
      intro hG2 hG3 hE hG hme
      obtain ⟨xa1, xa2, xa3⟩ := hS.X hG.1.1 hG.1.2
      obtain ⟨xb1, xb2, xb3⟩ := hS.X hG.2.1.1 hG.2.1.2
      have hit : ∀ k : Nat, (k : Int) < n → 8 ≤ w 4 (w 28 b) → -1 ≤ w 31 (20 * a + i + k) ∧ w 31 (20 * a + i + k) < w 27 0 := fun k hk h8 => by have := hV.2.2.2.1 a (i + k) (by omega) (by omega) (by omega) (by omega) (by omega); rw [show 20 * a + (i + (k : Int)) = 20 * a + i + k by omega] at this; exact ft8 this (by omega)
      refine z_iconst C 157 dX7_copy_156 rfl ?_
      refine z_istore (lv' := [(0, .ref (am)), (1, .int (iI (a))), (2, .int (iI (i))), (3, .int (iI (b))), (4, .int (iI (j))), (5, .int (iI (n))), (6, .int (iI (w 4 (w 28 (a))))), (7, .int (iI (w 4 (w 28 (b))))), (8, .int (iI (0)))]) C 159 [1, 2, 3, 4, 5, 6, 7, 8, 0] dX7_copy_157 (by decide) rfl rfl ?_
      have L159_3 : ∀ (fu : Nat) (k : Nat) (w' : mW) (hk : k ≤ n.toNat) (ew : w' = mdW w a i k) (hw' : mWF w') (hme : n.toNat - k < fu), Z κ (mP θ am ar w' N) 0 0 159 [(0, .ref (am)), (1, .int (iI (a))), (2, .int (iI (i))), (3, .int (iI (b))), (4, .int (iI (j))), (5, .int (iI (n))), (6, .int (iI (w 4 (w 28 (a))))), (7, .int (iI (w 4 (w 28 (b))))), (8, .int (iI ((k : Int))))] [] := by
        intro fu
        induction fu with
        | zero => intro k w' hk ew hw' hme; exact absurd hme (Nat.not_lt_zero _)
        | succ fu ih4 =>
          intro k w' hk ew hw' hme
          refine z_iload C 161 8 dX7_copy_159 rfl rfl ?_
          refine z_iload C 163 5 dX7_copy_161 rfl rfl ?_
          refine z_icmp_ge C 193 166 dX7_copy_163 (by decide) ⟨by omega, by omega⟩ r_n rfl (fun c5 => ?_) (fun c5 => ?_)
          · skip
            refine z_iconst C 194 dX7_copy_193 rfl ?_
            refine z_istore (lv' := [(0, .ref (am)), (1, .int (iI (a))), (2, .int (iI (i))), (3, .int (iI (b))), (4, .int (iI (j))), (5, .int (iI (n))), (6, .int (iI (w 4 (w 28 (a))))), (7, .int (iI (w 4 (w 28 (b))))), (8, .int (iI (0)))]) C 196 [1, 2, 3, 4, 5, 6, 7, 8, 0] dX7_copy_194 (by decide) rfl rfl ?_
            have L196_6 : ∀ (fu : Nat) (k : Nat) (w' : mW) (hk : k ≤ n.toNat) (ew : w' = ciW (mdW w a i n.toNat) b j k) (hw' : mWF w') (hp : ∀ j' : Nat, j' < k → cpP w a i b j' = false) (hme : n.toNat - k < fu), Z κ (mP θ am ar w' N) 0 0 196 [(0, .ref (am)), (1, .int (iI (a))), (2, .int (iI (i))), (3, .int (iI (b))), (4, .int (iI (j))), (5, .int (iI (n))), (6, .int (iI (w 4 (w 28 (a))))), (7, .int (iI (w 4 (w 28 (b))))), (8, .int (iI ((k : Int))))] [] := by
              intro fu
              induction fu with
              | zero => intro k w' hk ew hw' hp hme; exact absurd hme (Nat.not_lt_zero _)
              | succ fu ih7 =>
                intro k w' hk ew hw' hp hme
                have hS28 : ∀ t : Int, w' 28 t = w 28 t := fun t => by rw [ew]; simp only [mdW_k (show (28 : Nat) ≠ 43 by decide), ciW_k (show (28 : Nat) ≠ 31 by decide)]
                refine z_iload C 198 8 dX7_copy_196 rfl rfl ?_
                refine z_iload C 200 5 dX7_copy_198 rfl rfl ?_
                refine z_icmp_ge C 275 203 dX7_copy_200 (by decide) ⟨by omega, by omega⟩ r_n rfl (fun c8 => ?_) (fun c8 => ?_)
                · skip
                  refine z_iconst C 276 dX7_copy_275 rfl ?_
                  exact z_iret C dX7_copy_276 rfl (Nat.le_of_ble_eq_true rfl) (Nat.le_of_ble_eq_true rfl) ⟨congrArg (fun z => some (Value.int (iI z))) (by clear C hκ hκl; have hK : cpK w a i b n = n.toNat := (by unfold cpK; exact firstN_none (fun j' h => hp j' (by omega))); unfold cpI; rw [if_neg (by simp [hG2, hG3]), if_neg (by omega)]; rw [if_neg (by omega)]), (congrArg (fun w' => mP θ am ar w' N) (by clear C hκ hκl; have hK : cpK w a i b n = n.toNat := (by unfold cpK; exact firstN_none (fun j' h => hp j' (by omega))); unfold cpW; rw [if_pos (by simp [hG2, hG3, hE])]; rw [hK, ew, show k = n.toNat by omega]))⟩
                · skip
                  have hkn : (k : Int) < n := by omega
                  have m0 : ∀ t : Int, w' 43 t = mdW w a i n.toNat 43 t := fun t => by rw [ew, ciW_k (by decide)]
                  have m1 : w' 43 (k : Int) = w 31 (20 * a + i + k) := by rw [m0, mdW_m (by omega)]
                  have m8 : ∀ t : Int, w' 8 t = w 8 t := fun t => by rw [ew, ciW_k (by decide), mdW_k (by decide)]
                  have m9 := hit k hkn
                  refine z_iload C 205 7 dX7_copy_203 rfl rfl ?_
                  refine z_bipush C 207 dX7_copy_205 (by decide) rfl ?_
                  refine z_icmp_lt C 247 210 dX7_copy_207 (by decide) (hw.r _ _ rfl) ⟨by decide, by decide⟩ rfl (fun c9 => ?_) (fun c9 => ?_)
                  · skip
                    have hpk : cpP w a i b k = false := by clear C hκ hκl; unfold cpP; first | (rw [show decide (8 ≤ w 4 (w 28 b)) = false from by simp; omega]; rfl) | (rw [show decide (0 ≤ w 31 (20 * a + i + k)) = false from by simp; omega]; simp) | (rw [← m1, ← hS28 (w' 43 (k : Int))]; unfold isa mb at *; rw [← m8]; simp_all)
                    refine z_aload_n C 248 0 dX7_copy_247 rfl rfl ?_
                    refine m_geta C hκ 251 31 (by decide) rfl q2026 rfl dX7_copy_248 rfl ?_
                    refine z_bipush C 253 dX7_copy_251 (by decide) rfl ?_
                    refine z_iload_n C 254 3 dX7_copy_253 rfl rfl ?_
                    refine z_imul C 255 dX7_copy_254 rfl ?_
                    refine z_iload C 257 4 dX7_copy_255 rfl rfl ?_
                    refine z_iadd C 258 dX7_copy_257 rfl ?_
                    refine z_iload C 260 8 dX7_copy_258 rfl rfl ?_
                    refine z_iadd C 261 dX7_copy_260 rfl ?_
                    refine z_aload_n C 262 0 dX7_copy_261 rfl rfl ?_
                    refine m_geta C hκ 265 43 (by decide) rfl q2038 rfl dX7_copy_262 rfl ?_
                    refine z_iload C 267 8 dX7_copy_265 rfl rfl ?_
                    refine m_lald (len := 20) C hκ hD 268 43 (by decide) rfl rfl (by omega) (by omega) dX7_copy_267 rfl ?_
                    obtain ⟨w1, ew1⟩ : ∃ wz, mset w' 31 ((((20) * (b)) + (j)) + ((k : Int))) (w' 43 ((k : Int))) = wz := ⟨_, rfl⟩
                    have hw1 : mWF w1 := ew1 ▸ hw'.setL (hw'.l _ _) rfl rfl
                    refine m_last (len := 1600) (w' := w1) C hκ hD 269 31 (by decide) rfl rfl (by omega) (by omega) dX7_copy_268 rfl ew1 ?_
                    refine z_iinc (lv' := [(0, .ref (am)), (1, .int (iI (a))), (2, .int (iI (i))), (3, .int (iI (b))), (4, .int (iI (j))), (5, .int (iI (n))), (6, .int (iI (w 4 (w 28 (a))))), (7, .int (iI (w 4 (w 28 (b))))), (8, .int (iI (((k : Int)) + 1)))]) C 272 8 [1, 2, 3, 4, 5, 6, 7, 8, 0] dX7_copy_269 rfl (by decide) rfl rfl ?_
                    refine z_goto C 196 dX7_copy_272 (by decide) ?_
                    refine z_as (lv' := [(0, .ref (am)), (1, .int (iI (a))), (2, .int (iI (i))), (3, .int (iI (b))), (4, .int (iI (j))), (5, .int (iI (n))), (6, .int (iI (w 4 (w 28 (a))))), (7, .int (iI (w 4 (w 28 (b))))), (8, .int (iI (((k + 1) : Int))))]) rfl rfl rfl ?_
                    exact ih7 (k + 1) (w1) (by omega) (by rw [← ew1]; simp only [ciW]; rw [← ew]; congr 1; rw [ew, ciW_k (by decide)]) hw1 (fun j' hj' => (Nat.lt_or_eq_of_le (Nat.le_of_lt_succ hj')).elim (hp j') (fun h => by rw [h]; exact hpk)) (by omega)
                  · skip
                    refine z_aload_n C 211 0 dX7_copy_210 rfl rfl ?_
                    refine m_geta C hκ 214 43 (by decide) rfl q2038 rfl dX7_copy_211 rfl ?_
                    refine z_iload C 216 8 dX7_copy_214 rfl rfl ?_
                    refine m_lald (len := 20) C hκ hD 217 43 (by decide) rfl rfl (by omega) (by omega) dX7_copy_216 rfl ?_
                    refine z_lconst (x := 0) C 218 dX7_copy_217 rfl rfl ?_
                    refine z_lcmp C 219 dX7_copy_218 (hw'.l _ _) ⟨by decide, by decide⟩ rfl ?_
                    refine z_ifC_lt C 247 222 dX7_copy_219 (by decide) rfl (fun c10 => ?_) (fun c10 => ?_)
                    · skip
                      have hpk : cpP w a i b k = false := by clear C hκ hκl; unfold cpP; first | (rw [show decide (8 ≤ w 4 (w 28 b)) = false from by simp; omega]; rfl) | (rw [show decide (0 ≤ w 31 (20 * a + i + k)) = false from by simp; omega]; simp) | (rw [← m1, ← hS28 (w' 43 (k : Int))]; unfold isa mb at *; rw [← m8]; simp_all)
                      refine z_aload_n C 248 0 dX7_copy_247 rfl rfl ?_
                      refine m_geta C hκ 251 31 (by decide) rfl q2026 rfl dX7_copy_248 rfl ?_
                      refine z_bipush C 253 dX7_copy_251 (by decide) rfl ?_
                      refine z_iload_n C 254 3 dX7_copy_253 rfl rfl ?_
                      refine z_imul C 255 dX7_copy_254 rfl ?_
                      refine z_iload C 257 4 dX7_copy_255 rfl rfl ?_
                      refine z_iadd C 258 dX7_copy_257 rfl ?_
                      refine z_iload C 260 8 dX7_copy_258 rfl rfl ?_
                      refine z_iadd C 261 dX7_copy_260 rfl ?_
                      refine z_aload_n C 262 0 dX7_copy_261 rfl rfl ?_
                      refine m_geta C hκ 265 43 (by decide) rfl q2038 rfl dX7_copy_262 rfl ?_
                      refine z_iload C 267 8 dX7_copy_265 rfl rfl ?_
                      refine m_lald (len := 20) C hκ hD 268 43 (by decide) rfl rfl (by omega) (by omega) dX7_copy_267 rfl ?_
                      obtain ⟨w2, ew2⟩ : ∃ wz, mset w' 31 ((((20) * (b)) + (j)) + ((k : Int))) (w' 43 ((k : Int))) = wz := ⟨_, rfl⟩
                      have hw2 : mWF w2 := ew2 ▸ hw'.setL (hw'.l _ _) rfl rfl
                      refine m_last (len := 1600) (w' := w2) C hκ hD 269 31 (by decide) rfl rfl (by omega) (by omega) dX7_copy_268 rfl ew2 ?_
                      refine z_iinc (lv' := [(0, .ref (am)), (1, .int (iI (a))), (2, .int (iI (i))), (3, .int (iI (b))), (4, .int (iI (j))), (5, .int (iI (n))), (6, .int (iI (w 4 (w 28 (a))))), (7, .int (iI (w 4 (w 28 (b))))), (8, .int (iI (((k : Int)) + 1)))]) C 272 8 [1, 2, 3, 4, 5, 6, 7, 8, 0] dX7_copy_269 rfl (by decide) rfl rfl ?_
                      refine z_goto C 196 dX7_copy_272 (by decide) ?_
                      refine z_as (lv' := [(0, .ref (am)), (1, .int (iI (a))), (2, .int (iI (i))), (3, .int (iI (b))), (4, .int (iI (j))), (5, .int (iI (n))), (6, .int (iI (w 4 (w 28 (a))))), (7, .int (iI (w 4 (w 28 (b))))), (8, .int (iI (((k + 1) : Int))))]) rfl rfl rfl ?_
                      exact ih7 (k + 1) (w2) (by omega) (by rw [← ew2]; simp only [ciW]; rw [← ew]; congr 1; rw [ew, ciW_k (by decide)]) hw2 (fun j' hj' => (Nat.lt_or_eq_of_le (Nat.le_of_lt_succ hj')).elim (hp j') (fun h => by rw [h]; exact hpk)) (by omega)
                    · skip
                      have n9 := m9 (by omega)
                      have nx := hS.X (show 0 ≤ w 31 (20 * a + i + k) by omega) (by omega)
                      rw [← m1] at nx n9
                      have nx1 := nx.1
                      rw [← hS28] at nx1
                      have yb := (hS.T (show 0 ≤ w 28 b by omega) (by omega)).2.2.2.1
                      refine z_aload_n C 223 0 dX7_copy_222 rfl rfl ?_
                      refine z_aload_n C 224 0 dX7_copy_223 rfl rfl ?_
                      refine m_geta C hκ 227 28 (by decide) rfl q2023 rfl dX7_copy_224 rfl ?_
                      refine z_aload_n C 228 0 dX7_copy_227 rfl rfl ?_
                      refine m_geta C hκ 231 43 (by decide) rfl q2038 rfl dX7_copy_228 rfl ?_
                      refine z_iload C 233 8 dX7_copy_231 rfl rfl ?_
                      refine m_lald (len := 20) C hκ hD 234 43 (by decide) rfl rfl (by omega) (by omega) dX7_copy_233 rfl ?_
                      refine z_l2i C 235 dX7_copy_234 rfl ?_
                      obtain ⟨f11a, f11b, f11c⟩ := hS.X (show 0 ≤ w' 43 ((k : Int)) by omega) (by omega)
                      refine m_iald (len := 80) C hκ hD 236 28 (by decide) rfl rfl (by omega) (by omega) dX7_copy_235 rfl ?_
                      refine z_iload C 238 7 dX7_copy_236 rfl rfl ?_
                      refine z_callVF (n' := 0) (k' := 0) (As := [.int (iI (w' 28 (w' 43 ((k : Int))))), .int (iI (w 4 (w 28 (b))))]) (rest := []) C hκ hκl 241 (k7_isOne hD hw' (w' 28 (w' 43 ((k : Int)))) (w 4 (w 28 (b))) (hw'.r _ _ rfl) (hw.r _ _ rfl) (by omega) (by omega)) dX7_copy_238 q2197 q2199 qs44 q97 q2200 znX7_isOne (Nat.le_of_ble_eq_true rfl) (Nat.le_of_ble_eq_true rfl) (Nat.le_of_ble_eq_true rfl) (Nat.le_of_ble_eq_true rfl) mrec rfl rfl (Nat.le_of_ble_eq_true rfl) rfl rfl rfl ?_
                      refine z_ifB_ne C 247 244 dX7_copy_241 (by decide) rfl (fun c12 => ?_) (fun c12 => ?_)
                      · skip
                        have hpk : cpP w a i b k = false := by clear C hκ hκl; unfold cpP; first | (rw [show decide (8 ≤ w 4 (w 28 b)) = false from by simp; omega]; rfl) | (rw [show decide (0 ≤ w 31 (20 * a + i + k)) = false from by simp; omega]; simp) | (rw [← m1, ← hS28 (w' 43 (k : Int))]; unfold isa mb at *; rw [← m8]; simp_all)
                        refine z_aload_n C 248 0 dX7_copy_247 rfl rfl ?_
                        refine m_geta C hκ 251 31 (by decide) rfl q2026 rfl dX7_copy_248 rfl ?_
                        refine z_bipush C 253 dX7_copy_251 (by decide) rfl ?_
                        refine z_iload_n C 254 3 dX7_copy_253 rfl rfl ?_
                        refine z_imul C 255 dX7_copy_254 rfl ?_
                        refine z_iload C 257 4 dX7_copy_255 rfl rfl ?_
                        refine z_iadd C 258 dX7_copy_257 rfl ?_
                        refine z_iload C 260 8 dX7_copy_258 rfl rfl ?_
                        refine z_iadd C 261 dX7_copy_260 rfl ?_
                        refine z_aload_n C 262 0 dX7_copy_261 rfl rfl ?_
                        refine m_geta C hκ 265 43 (by decide) rfl q2038 rfl dX7_copy_262 rfl ?_
                        refine z_iload C 267 8 dX7_copy_265 rfl rfl ?_
                        refine m_lald (len := 20) C hκ hD 268 43 (by decide) rfl rfl (by omega) (by omega) dX7_copy_267 rfl ?_
                        obtain ⟨w3, ew3⟩ : ∃ wz, mset w' 31 ((((20) * (b)) + (j)) + ((k : Int))) (w' 43 ((k : Int))) = wz := ⟨_, rfl⟩
                        have hw3 : mWF w3 := ew3 ▸ hw'.setL (hw'.l _ _) rfl rfl
                        refine m_last (len := 1600) (w' := w3) C hκ hD 269 31 (by decide) rfl rfl (by omega) (by omega) dX7_copy_268 rfl ew3 ?_
                        refine z_iinc (lv' := [(0, .ref (am)), (1, .int (iI (a))), (2, .int (iI (i))), (3, .int (iI (b))), (4, .int (iI (j))), (5, .int (iI (n))), (6, .int (iI (w 4 (w 28 (a))))), (7, .int (iI (w 4 (w 28 (b))))), (8, .int (iI (((k : Int)) + 1)))]) C 272 8 [1, 2, 3, 4, 5, 6, 7, 8, 0] dX7_copy_269 rfl (by decide) rfl rfl ?_
                        refine z_goto C 196 dX7_copy_272 (by decide) ?_
                        refine z_as (lv' := [(0, .ref (am)), (1, .int (iI (a))), (2, .int (iI (i))), (3, .int (iI (b))), (4, .int (iI (j))), (5, .int (iI (n))), (6, .int (iI (w 4 (w 28 (a))))), (7, .int (iI (w 4 (w 28 (b))))), (8, .int (iI (((k + 1) : Int))))]) rfl rfl rfl ?_
                        exact ih7 (k + 1) (w3) (by omega) (by rw [← ew3]; simp only [ciW]; rw [← ew]; congr 1; rw [ew, ciW_k (by decide)]) hw3 (fun j' hj' => (Nat.lt_or_eq_of_le (Nat.le_of_lt_succ hj')).elim (hp j') (fun h => by rw [h]; exact hpk)) (by omega)
                      · skip
                        refine z_bipush C 246 dX7_copy_244 (by decide) rfl ?_
                        exact z_iret C dX7_copy_246 rfl (Nat.le_of_ble_eq_true rfl) (Nat.le_of_ble_eq_true rfl) ⟨congrArg (fun z => some (Value.int (iI z))) (by clear C hκ hκl; have hK : cpK w a i b n = k := (by unfold cpK; refine firstN_at (by omega) ?_ hp; unfold cpP; rw [← m1, ← hS28 (w' 43 (k : Int))]; rw [show decide (8 ≤ w 4 (w 28 b)) = true from by simp; omega, show decide (0 ≤ w' 43 (k : Int)) = true from by simp; omega]; unfold isa mb at *; rw [← m8]; simp_all); unfold cpI; rw [if_neg (by simp [hG2, hG3]), if_neg (by omega)]; rw [if_pos (by omega)]), (congrArg (fun w' => mP θ am ar w' N) (by clear C hκ hκl; have hK : cpK w a i b n = k := (by unfold cpK; refine firstN_at (by omega) ?_ hp; unfold cpP; rw [← m1, ← hS28 (w' 43 (k : Int))]; rw [show decide (8 ≤ w 4 (w 28 b)) = true from by simp; omega, show decide (0 ≤ w' 43 (k : Int)) = true from by simp; omega]; unfold isa mb at *; rw [← m8]; simp_all); unfold cpW; rw [if_pos (by simp [hG2, hG3, hE])]; rw [hK, ew]))⟩
            refine z_as (lv' := [(0, .ref (am)), (1, .int (iI (a))), (2, .int (iI (i))), (3, .int (iI (b))), (4, .int (iI (j))), (5, .int (iI (n))), (6, .int (iI (w 4 (w 28 (a))))), (7, .int (iI (w 4 (w 28 (b))))), (8, .int (iI (((0) : Int))))]) rfl rfl rfl ?_
            exact L196_6 _ (0) (w') (Nat.zero_le _) (by rw [ew, show k = n.toNat by omega]; rfl) hw' (fun j' h => absurd h (Nat.not_lt_zero _)) (Nat.lt_succ_self _)
          · skip
            refine z_aload_n C 167 0 dX7_copy_166 rfl rfl ?_
            refine m_geta C hκ 170 43 (by decide) rfl q2038 rfl dX7_copy_167 rfl ?_
            refine z_iload C 172 8 dX7_copy_170 rfl rfl ?_
            refine z_aload_n C 173 0 dX7_copy_172 rfl rfl ?_
            refine m_geta C hκ 176 31 (by decide) rfl q2026 rfl dX7_copy_173 rfl ?_
            refine z_bipush C 178 dX7_copy_176 (by decide) rfl ?_
            refine z_iload_n C 179 1 dX7_copy_178 rfl rfl ?_
            refine z_imul C 180 dX7_copy_179 rfl ?_
            refine z_iload_n C 181 2 dX7_copy_180 rfl rfl ?_
            refine z_iadd C 182 dX7_copy_181 rfl ?_
            refine z_iload C 184 8 dX7_copy_182 rfl rfl ?_
            refine z_iadd C 185 dX7_copy_184 rfl ?_
            refine m_lald (len := 1600) C hκ hD 186 31 (by decide) rfl rfl (by omega) (by omega) dX7_copy_185 rfl ?_
            obtain ⟨w4, ew4⟩ : ∃ wz, mset w' 43 ((k : Int)) (w' 31 ((((20) * (a)) + (i)) + ((k : Int)))) = wz := ⟨_, rfl⟩
            have hw4 : mWF w4 := ew4 ▸ hw'.setL (hw'.l _ _) rfl rfl
            refine m_last (len := 20) (w' := w4) C hκ hD 187 43 (by decide) rfl rfl (by omega) (by omega) dX7_copy_186 rfl ew4 ?_
            refine z_iinc (lv' := [(0, .ref (am)), (1, .int (iI (a))), (2, .int (iI (i))), (3, .int (iI (b))), (4, .int (iI (j))), (5, .int (iI (n))), (6, .int (iI (w 4 (w 28 (a))))), (7, .int (iI (w 4 (w 28 (b))))), (8, .int (iI (((k : Int)) + 1)))]) C 190 8 [1, 2, 3, 4, 5, 6, 7, 8, 0] dX7_copy_187 rfl (by decide) rfl rfl ?_
            refine z_goto C 159 dX7_copy_190 (by decide) ?_
            refine z_as (lv' := [(0, .ref (am)), (1, .int (iI (a))), (2, .int (iI (i))), (3, .int (iI (b))), (4, .int (iI (j))), (5, .int (iI (n))), (6, .int (iI (w 4 (w 28 (a))))), (7, .int (iI (w 4 (w 28 (b))))), (8, .int (iI (((k + 1) : Int))))]) rfl rfl rfl ?_
            exact ih4 (k + 1) (w4) (by omega) (by rw [← ew4]; simp only [mdW]; rw [← ew]; congr 1; rw [ew, mdW_k (by decide)]) hw4 (by omega)
      refine z_as (lv' := [(0, .ref (am)), (1, .int (iI (a))), (2, .int (iI (i))), (3, .int (iI (b))), (4, .int (iI (j))), (5, .int (iI (n))), (6, .int (iI (w 4 (w 28 (a))))), (7, .int (iI (w 4 (w 28 (b))))), (8, .int (iI (((0) : Int))))]) rfl rfl rfl ?_
      exact L159_3 _ (0) (w) (Nat.zero_le _) rfl hw (Nat.lt_succ_self _)
  refine z_aload_n C 1 0 dX7_copy_0 rfl rfl ?_
  refine z_iload_n C 2 1 dX7_copy_1 rfl rfl ?_
  refine z_callVF (n' := 0) (k' := 0) (As := [.int (iI (a))]) (rest := []) C hκ hκl 5 (k7_isThingOrNone hD hw (a) r_a hB) dX7_copy_2 q2345 q2347 qs63 q97 q2348 znX7_isThingOrNone (Nat.le_of_ble_eq_true rfl) (Nat.le_of_ble_eq_true rfl) (Nat.le_of_ble_eq_true rfl) (Nat.le_of_ble_eq_true rfl) mrec rfl rfl (Nat.le_of_ble_eq_true rfl) rfl rfl rfl ?_
  refine z_ifB_eq C 16 8 dX7_copy_5 (by decide) rfl (fun c13 => ?_) (fun c13 => ?_)
  · skip
    have c13b : ¬ ((a) = -1 ∨ (0 ≤ (a) ∧ (a) < w 27 0)) := of_decide_eq_false c13
    refine z_iconst C 17 dX7_copy_16 rfl ?_
    exact z_iret C dX7_copy_17 rfl (Nat.le_of_ble_eq_true rfl) (Nat.le_of_ble_eq_true rfl) ⟨congrArg (fun z => some (Value.int (iI z))) (by clear C hκ hκl hS hB hB1 hB2 hB3 hB4 hB5 hB6 hC hD hw L156_1; unfold cpI; rw [if_pos]; simp [*]), (congrArg (fun w' => mP θ am ar w' N) (by clear C hκ hκl hS hB hB1 hB2 hB3 hB4 hB5 hB6 hC hD hw L156_1; unfold cpW; rw [if_neg]; simp [*]))⟩
  · skip
    have c13b : ((a) = -1 ∨ (0 ≤ (a) ∧ (a) < w 27 0)) := of_decide_eq_true c13
    refine z_aload_n C 9 0 dX7_copy_8 rfl rfl ?_
    refine z_iload_n C 10 3 dX7_copy_9 rfl rfl ?_
    refine z_callVF (n' := 0) (k' := 0) (As := [.int (iI (b))]) (rest := []) C hκ hκl 13 (k7_isThingOrNone hD hw (b) r_b hB) dX7_copy_10 q2345 q2347 qs63 q97 q2348 znX7_isThingOrNone (Nat.le_of_ble_eq_true rfl) (Nat.le_of_ble_eq_true rfl) (Nat.le_of_ble_eq_true rfl) (Nat.le_of_ble_eq_true rfl) mrec rfl rfl (Nat.le_of_ble_eq_true rfl) rfl rfl rfl ?_
    refine z_ifB_ne C 18 16 dX7_copy_13 (by decide) rfl (fun c14 => ?_) (fun c14 => ?_)
    · skip
      have c14b : ((b) = -1 ∨ (0 ≤ (b) ∧ (b) < w 27 0)) := of_decide_eq_true c14
      refine z_iload_n C 19 1 dX7_copy_18 rfl rfl ?_
      refine z_iconst C 20 dX7_copy_19 rfl ?_
      refine z_icmp_eq C 28 23 dX7_copy_20 (by decide) r_a ⟨by decide, by decide⟩ rfl (fun c15 => ?_) (fun c15 => ?_)
      · skip
        refine z_bipush C 30 dX7_copy_28 (by decide) rfl ?_
        exact z_iret C dX7_copy_30 rfl (Nat.le_of_ble_eq_true rfl) (Nat.le_of_ble_eq_true rfl) ⟨congrArg (fun z => some (Value.int (iI z))) (by clear C hκ hκl hS hB hB1 hB2 hB3 hB4 hB5 hB6 hC hD hw L156_1; have hE : cpE w a i b j n = -11 := (by unfold cpE; (repeat' split) <;> omega); unfold cpI; rw [if_neg (by first | (simp [*]; done) | simp_all), if_pos (by rw [hE]; decide), hE]), (congrArg (fun w' => mP θ am ar w' N) (by clear C hκ hκl hS hB hB1 hB2 hB3 hB4 hB5 hB6 hC hD hw L156_1; have hE : cpE w a i b j n = -11 := (by unfold cpE; (repeat' split) <;> omega); unfold cpW; rw [if_neg (by intro h; rw [Bool.and_eq_true] at h; have h3 := of_decide_eq_true h.2; rw [hE] at h3; omega)]))⟩
      · skip
        refine z_iload_n C 24 3 dX7_copy_23 rfl rfl ?_
        refine z_iconst C 25 dX7_copy_24 rfl ?_
        refine z_icmp_ne C 31 28 dX7_copy_25 (by decide) r_b ⟨by decide, by decide⟩ rfl (fun c16 => ?_) (fun c16 => ?_)
        · skip
          refine z_aload_n C 32 0 dX7_copy_31 rfl rfl ?_
          refine m_geta C hκ 35 29 (by decide) rfl q2024 rfl dX7_copy_32 rfl ?_
          refine z_iload_n C 36 1 dX7_copy_35 rfl rfl ?_
          obtain ⟨f17a, f17b, f17c⟩ := hS.X (show 0 ≤ a by omega) (by omega)
          refine m_iald (len := 80) C hκ hD 37 29 (by decide) rfl rfl (by omega) (by omega) dX7_copy_36 rfl ?_
          refine z_iconst C 38 dX7_copy_37 rfl ?_
          refine z_icmp_eq C 51 41 dX7_copy_38 (by decide) (hw.r _ _ rfl) ⟨by decide, by decide⟩ rfl (fun c18 => ?_) (fun c18 => ?_)
          · skip
            refine z_bipush C 53 dX7_copy_51 (by decide) rfl ?_
            exact z_iret C dX7_copy_53 rfl (Nat.le_of_ble_eq_true rfl) (Nat.le_of_ble_eq_true rfl) ⟨congrArg (fun z => some (Value.int (iI z))) (by clear C hκ hκl hS hB hB1 hB2 hB3 hB4 hB5 hB6 hC hD hw L156_1 f17a f17b f17c; have hE : cpE w a i b j n = -14 := (by unfold cpE; (repeat' split) <;> omega); unfold cpI; rw [if_neg (by first | (simp [*]; done) | simp_all), if_pos (by rw [hE]; decide), hE]), (congrArg (fun w' => mP θ am ar w' N) (by clear C hκ hκl hS hB hB1 hB2 hB3 hB4 hB5 hB6 hC hD hw L156_1 f17a f17b f17c; have hE : cpE w a i b j n = -14 := (by unfold cpE; (repeat' split) <;> omega); unfold cpW; rw [if_neg (by intro h; rw [Bool.and_eq_true] at h; have h3 := of_decide_eq_true h.2; rw [hE] at h3; omega)]))⟩
          · skip
            refine z_aload_n C 42 0 dX7_copy_41 rfl rfl ?_
            refine m_geta C hκ 45 29 (by decide) rfl q2024 rfl dX7_copy_42 rfl ?_
            refine z_iload_n C 46 3 dX7_copy_45 rfl rfl ?_
            obtain ⟨f19a, f19b, f19c⟩ := hS.X (show 0 ≤ b by omega) (by omega)
            refine m_iald (len := 80) C hκ hD 47 29 (by decide) rfl rfl (by omega) (by omega) dX7_copy_46 rfl ?_
            refine z_iconst C 48 dX7_copy_47 rfl ?_
            refine z_icmp_ne C 54 51 dX7_copy_48 (by decide) (hw.r _ _ rfl) ⟨by decide, by decide⟩ rfl (fun c20 => ?_) (fun c20 => ?_)
            · skip
              refine z_aload_n C 55 0 dX7_copy_54 rfl rfl ?_
              refine m_geta C hκ 58 4 (by decide) rfl q1999 rfl dX7_copy_55 rfl ?_
              refine z_aload_n C 59 0 dX7_copy_58 rfl rfl ?_
              refine m_geta C hκ 62 28 (by decide) rfl q2023 rfl dX7_copy_59 rfl ?_
              refine z_iload_n C 63 1 dX7_copy_62 rfl rfl ?_
              refine m_iald (len := 80) C hκ hD 64 28 (by decide) rfl rfl (by omega) (by omega) dX7_copy_63 rfl ?_
              obtain ⟨f21a, f21b, f21c, f21d, f21e, f21f, f21g, f21h⟩ := hS.T (show 0 ≤ w 28 (a) by omega) (by omega)
              refine m_iald (len := 60) C hκ hD 65 4 (by decide) rfl rfl (by omega) (by omega) dX7_copy_64 rfl ?_
              refine z_istore (lv' := [(0, .ref (am)), (1, .int (iI (a))), (2, .int (iI (i))), (3, .int (iI (b))), (4, .int (iI (j))), (5, .int (iI (n))), (6, .int (iI (w 4 (w 28 (a)))))]) C 67 [1, 2, 3, 4, 5, 6, 0] dX7_copy_65 (by decide) rfl rfl ?_
              refine z_aload_n C 68 0 dX7_copy_67 rfl rfl ?_
              refine m_geta C hκ 71 4 (by decide) rfl q1999 rfl dX7_copy_68 rfl ?_
              refine z_aload_n C 72 0 dX7_copy_71 rfl rfl ?_
              refine m_geta C hκ 75 28 (by decide) rfl q2023 rfl dX7_copy_72 rfl ?_
              refine z_iload_n C 76 3 dX7_copy_75 rfl rfl ?_
              refine m_iald (len := 80) C hκ hD 77 28 (by decide) rfl rfl (by omega) (by omega) dX7_copy_76 rfl ?_
              obtain ⟨f22a, f22b, f22c, f22d, f22e, f22f, f22g, f22h⟩ := hS.T (show 0 ≤ w 28 (b) by omega) (by omega)
              refine m_iald (len := 60) C hκ hD 78 4 (by decide) rfl rfl (by omega) (by omega) dX7_copy_77 rfl ?_
              refine z_istore (lv' := [(0, .ref (am)), (1, .int (iI (a))), (2, .int (iI (i))), (3, .int (iI (b))), (4, .int (iI (j))), (5, .int (iI (n))), (6, .int (iI (w 4 (w 28 (a))))), (7, .int (iI (w 4 (w 28 (b)))))]) C 80 [1, 2, 3, 4, 5, 6, 7, 0] dX7_copy_78 (by decide) rfl rfl ?_
              refine z_iload C 82 6 dX7_copy_80 rfl rfl ?_
              refine z_bipush C 84 dX7_copy_82 (by decide) rfl ?_
              refine z_icmp_lt C 94 87 dX7_copy_84 (by decide) (hw.r _ _ rfl) ⟨by decide, by decide⟩ rfl (fun c23 => ?_) (fun c23 => ?_)
              · skip
                refine z_iload C 96 6 dX7_copy_94 rfl rfl ?_
                refine z_iload C 98 7 dX7_copy_96 rfl rfl ?_
                refine z_icmp_eq C 104 101 dX7_copy_98 (by decide) (hw.r _ _ rfl) (hw.r _ _ rfl) rfl (fun c24 => ?_) (fun c24 => ?_)
                · skip
                  refine z_iload_n C 105 2 dX7_copy_104 rfl rfl ?_
                  refine z_if_lt C 153 108 dX7_copy_105 (by decide) r_i rfl (fun c25 => ?_) (fun c25 => ?_)
                  · skip
                    refine z_bipush C 155 dX7_copy_153 (by decide) rfl ?_
                    exact z_iret C dX7_copy_155 rfl (Nat.le_of_ble_eq_true rfl) (Nat.le_of_ble_eq_true rfl) ⟨congrArg (fun z => some (Value.int (iI z))) (by clear C hκ hκl hS hB hB1 hB2 hB3 hB4 hB5 hB6 hC hD hw L156_1 f17a f17b f17c f19a f19b f19c f21a f21b f21c f21d f21e f21f f21g f21h f22a f22b f22c f22d f22e f22f f22g f22h; have hE : cpE w a i b j n = -13 := (by unfold cpE; (repeat' split) <;> omega); unfold cpI; rw [if_neg (by first | (simp [*]; done) | simp_all), if_pos (by rw [hE]; decide), hE]), (congrArg (fun w' => mP θ am ar w' N) (by clear C hκ hκl hS hB hB1 hB2 hB3 hB4 hB5 hB6 hC hD hw L156_1 f17a f17b f17c f19a f19b f19c f21a f21b f21c f21d f21e f21f f21g f21h f22a f22b f22c f22d f22e f22f f22g f22h; have hE : cpE w a i b j n = -13 := (by unfold cpE; (repeat' split) <;> omega); unfold cpW; rw [if_neg (by intro h; rw [Bool.and_eq_true] at h; have h3 := of_decide_eq_true h.2; rw [hE] at h3; omega)]))⟩
                  · skip
                    refine z_iload C 110 4 dX7_copy_108 rfl rfl ?_
                    refine z_if_lt C 153 113 dX7_copy_110 (by decide) r_j rfl (fun c26 => ?_) (fun c26 => ?_)
                    · skip
                      refine z_bipush C 155 dX7_copy_153 (by decide) rfl ?_
                      exact z_iret C dX7_copy_155 rfl (Nat.le_of_ble_eq_true rfl) (Nat.le_of_ble_eq_true rfl) ⟨congrArg (fun z => some (Value.int (iI z))) (by clear C hκ hκl hS hB hB1 hB2 hB3 hB4 hB5 hB6 hC hD hw L156_1 f17a f17b f17c f19a f19b f19c f21a f21b f21c f21d f21e f21f f21g f21h f22a f22b f22c f22d f22e f22f f22g f22h; have hE : cpE w a i b j n = -13 := (by unfold cpE; (repeat' split) <;> omega); unfold cpI; rw [if_neg (by first | (simp [*]; done) | simp_all), if_pos (by rw [hE]; decide), hE]), (congrArg (fun w' => mP θ am ar w' N) (by clear C hκ hκl hS hB hB1 hB2 hB3 hB4 hB5 hB6 hC hD hw L156_1 f17a f17b f17c f19a f19b f19c f21a f21b f21c f21d f21e f21f f21g f21h f22a f22b f22c f22d f22e f22f f22g f22h; have hE : cpE w a i b j n = -13 := (by unfold cpE; (repeat' split) <;> omega); unfold cpW; rw [if_neg (by intro h; rw [Bool.and_eq_true] at h; have h3 := of_decide_eq_true h.2; rw [hE] at h3; omega)]))⟩
                    · skip
                      refine z_iload C 115 5 dX7_copy_113 rfl rfl ?_
                      refine z_if_lt C 153 118 dX7_copy_115 (by decide) r_n rfl (fun c27 => ?_) (fun c27 => ?_)
                      · skip
                        refine z_bipush C 155 dX7_copy_153 (by decide) rfl ?_
                        exact z_iret C dX7_copy_155 rfl (Nat.le_of_ble_eq_true rfl) (Nat.le_of_ble_eq_true rfl) ⟨congrArg (fun z => some (Value.int (iI z))) (by clear C hκ hκl hS hB hB1 hB2 hB3 hB4 hB5 hB6 hC hD hw L156_1 f17a f17b f17c f19a f19b f19c f21a f21b f21c f21d f21e f21f f21g f21h f22a f22b f22c f22d f22e f22f f22g f22h; have hE : cpE w a i b j n = -13 := (by unfold cpE; (repeat' split) <;> omega); unfold cpI; rw [if_neg (by first | (simp [*]; done) | simp_all), if_pos (by rw [hE]; decide), hE]), (congrArg (fun w' => mP θ am ar w' N) (by clear C hκ hκl hS hB hB1 hB2 hB3 hB4 hB5 hB6 hC hD hw L156_1 f17a f17b f17c f19a f19b f19c f21a f21b f21c f21d f21e f21f f21g f21h f22a f22b f22c f22d f22e f22f f22g f22h; have hE : cpE w a i b j n = -13 := (by unfold cpE; (repeat' split) <;> omega); unfold cpW; rw [if_neg (by intro h; rw [Bool.and_eq_true] at h; have h3 := of_decide_eq_true h.2; rw [hE] at h3; omega)]))⟩
                      · skip
                        refine z_iload_n C 119 2 dX7_copy_118 rfl rfl ?_
                        refine z_i2l C 120 dX7_copy_119 r_i rfl ?_
                        refine z_iload C 122 5 dX7_copy_120 rfl rfl ?_
                        refine z_i2l C 123 dX7_copy_122 r_n rfl ?_
                        refine z_ladd C 124 dX7_copy_123 rfl ?_
                        refine z_aload_n C 125 0 dX7_copy_124 rfl rfl ?_
                        refine m_geta C hκ 128 29 (by decide) rfl q2024 rfl dX7_copy_125 rfl ?_
                        refine z_iload_n C 129 1 dX7_copy_128 rfl rfl ?_
                        refine m_iald (len := 80) C hκ hD 130 29 (by decide) rfl rfl (by omega) (by omega) dX7_copy_129 rfl ?_
                        refine z_i2l C 131 dX7_copy_130 (hw.r _ _ rfl) rfl ?_
                        refine z_lcmp C 132 dX7_copy_131 ⟨by omega, by omega⟩ (hw.l _ _) rfl ?_
                        refine z_ifC_gt C 153 135 dX7_copy_132 (by decide) rfl (fun c28 => ?_) (fun c28 => ?_)
                        · skip
                          refine z_bipush C 155 dX7_copy_153 (by decide) rfl ?_
                          exact z_iret C dX7_copy_155 rfl (Nat.le_of_ble_eq_true rfl) (Nat.le_of_ble_eq_true rfl) ⟨congrArg (fun z => some (Value.int (iI z))) (by clear C hκ hκl hS hB hB1 hB2 hB3 hB4 hB5 hB6 hC hD hw L156_1 f17a f17b f17c f19a f19b f19c f21a f21b f21c f21d f21e f21f f21g f21h f22a f22b f22c f22d f22e f22f f22g f22h; have hE : cpE w a i b j n = -13 := (by unfold cpE; (repeat' split) <;> omega); unfold cpI; rw [if_neg (by first | (simp [*]; done) | simp_all), if_pos (by rw [hE]; decide), hE]), (congrArg (fun w' => mP θ am ar w' N) (by clear C hκ hκl hS hB hB1 hB2 hB3 hB4 hB5 hB6 hC hD hw L156_1 f17a f17b f17c f19a f19b f19c f21a f21b f21c f21d f21e f21f f21g f21h f22a f22b f22c f22d f22e f22f f22g f22h; have hE : cpE w a i b j n = -13 := (by unfold cpE; (repeat' split) <;> omega); unfold cpW; rw [if_neg (by intro h; rw [Bool.and_eq_true] at h; have h3 := of_decide_eq_true h.2; rw [hE] at h3; omega)]))⟩
                        · skip
                          refine z_iload C 137 4 dX7_copy_135 rfl rfl ?_
                          refine z_i2l C 138 dX7_copy_137 r_j rfl ?_
                          refine z_iload C 140 5 dX7_copy_138 rfl rfl ?_
                          refine z_i2l C 141 dX7_copy_140 r_n rfl ?_
                          refine z_ladd C 142 dX7_copy_141 rfl ?_
                          refine z_aload_n C 143 0 dX7_copy_142 rfl rfl ?_
                          refine m_geta C hκ 146 29 (by decide) rfl q2024 rfl dX7_copy_143 rfl ?_
                          refine z_iload_n C 147 3 dX7_copy_146 rfl rfl ?_
                          refine m_iald (len := 80) C hκ hD 148 29 (by decide) rfl rfl (by omega) (by omega) dX7_copy_147 rfl ?_
                          refine z_i2l C 149 dX7_copy_148 (hw.r _ _ rfl) rfl ?_
                          refine z_lcmp C 150 dX7_copy_149 ⟨by omega, by omega⟩ (hw.l _ _) rfl ?_
                          refine z_ifC_le C 156 153 dX7_copy_150 (by decide) rfl (fun c29 => ?_) (fun c29 => ?_)
                          · skip
                            refine z_as (lv' := [(0, .ref (am)), (1, .int (iI (a))), (2, .int (iI (i))), (3, .int (iI (b))), (4, .int (iI (j))), (5, .int (iI (n))), (6, .int (iI (w 4 (w 28 (a))))), (7, .int (iI (w 4 (w 28 (b)))))]) rfl rfl rfl ?_
                            exact L156_1 _  (by assumption) (by assumption) (by clear C hκ hκl; unfold cpE; rw [if_neg (by omega), if_neg (by omega), if_neg (by omega), if_neg (by omega)]) (by omega) (Nat.lt_succ_self _)
                          · skip
                            refine z_bipush C 155 dX7_copy_153 (by decide) rfl ?_
                            exact z_iret C dX7_copy_155 rfl (Nat.le_of_ble_eq_true rfl) (Nat.le_of_ble_eq_true rfl) ⟨congrArg (fun z => some (Value.int (iI z))) (by clear C hκ hκl hS hB hB1 hB2 hB3 hB4 hB5 hB6 hC hD hw L156_1 f17a f17b f17c f19a f19b f19c f21a f21b f21c f21d f21e f21f f21g f21h f22a f22b f22c f22d f22e f22f f22g f22h; have hE : cpE w a i b j n = -13 := (by unfold cpE; (repeat' split) <;> omega); unfold cpI; rw [if_neg (by first | (simp [*]; done) | simp_all), if_pos (by rw [hE]; decide), hE]), (congrArg (fun w' => mP θ am ar w' N) (by clear C hκ hκl hS hB hB1 hB2 hB3 hB4 hB5 hB6 hC hD hw L156_1 f17a f17b f17c f19a f19b f19c f21a f21b f21c f21d f21e f21f f21g f21h f22a f22b f22c f22d f22e f22f f22g f22h; have hE : cpE w a i b j n = -13 := (by unfold cpE; (repeat' split) <;> omega); unfold cpW; rw [if_neg (by intro h; rw [Bool.and_eq_true] at h; have h3 := of_decide_eq_true h.2; rw [hE] at h3; omega)]))⟩
                · skip
                  refine z_bipush C 103 dX7_copy_101 (by decide) rfl ?_
                  exact z_iret C dX7_copy_103 rfl (Nat.le_of_ble_eq_true rfl) (Nat.le_of_ble_eq_true rfl) ⟨congrArg (fun z => some (Value.int (iI z))) (by clear C hκ hκl hS hB hB1 hB2 hB3 hB4 hB5 hB6 hC hD hw L156_1 f17a f17b f17c f19a f19b f19c f21a f21b f21c f21d f21e f21f f21g f21h f22a f22b f22c f22d f22e f22f f22g f22h; have hE : cpE w a i b j n = -14 := (by unfold cpE; (repeat' split) <;> omega); unfold cpI; rw [if_neg (by first | (simp [*]; done) | simp_all), if_pos (by rw [hE]; decide), hE]), (congrArg (fun w' => mP θ am ar w' N) (by clear C hκ hκl hS hB hB1 hB2 hB3 hB4 hB5 hB6 hC hD hw L156_1 f17a f17b f17c f19a f19b f19c f21a f21b f21c f21d f21e f21f f21g f21h f22a f22b f22c f22d f22e f22f f22g f22h; have hE : cpE w a i b j n = -14 := (by unfold cpE; (repeat' split) <;> omega); unfold cpW; rw [if_neg (by intro h; rw [Bool.and_eq_true] at h; have h3 := of_decide_eq_true h.2; rw [hE] at h3; omega)]))⟩
              · skip
                refine z_iload C 89 7 dX7_copy_87 rfl rfl ?_
                refine z_bipush C 91 dX7_copy_89 (by decide) rfl ?_
                refine z_icmp_ge C 104 94 dX7_copy_91 (by decide) (hw.r _ _ rfl) ⟨by decide, by decide⟩ rfl (fun c30 => ?_) (fun c30 => ?_)
                · skip
                  refine z_iload_n C 105 2 dX7_copy_104 rfl rfl ?_
                  refine z_if_lt C 153 108 dX7_copy_105 (by decide) r_i rfl (fun c31 => ?_) (fun c31 => ?_)
                  · skip
                    refine z_bipush C 155 dX7_copy_153 (by decide) rfl ?_
                    exact z_iret C dX7_copy_155 rfl (Nat.le_of_ble_eq_true rfl) (Nat.le_of_ble_eq_true rfl) ⟨congrArg (fun z => some (Value.int (iI z))) (by clear C hκ hκl hS hB hB1 hB2 hB3 hB4 hB5 hB6 hC hD hw L156_1 f17a f17b f17c f19a f19b f19c f21a f21b f21c f21d f21e f21f f21g f21h f22a f22b f22c f22d f22e f22f f22g f22h; have hE : cpE w a i b j n = -13 := (by unfold cpE; (repeat' split) <;> omega); unfold cpI; rw [if_neg (by first | (simp [*]; done) | simp_all), if_pos (by rw [hE]; decide), hE]), (congrArg (fun w' => mP θ am ar w' N) (by clear C hκ hκl hS hB hB1 hB2 hB3 hB4 hB5 hB6 hC hD hw L156_1 f17a f17b f17c f19a f19b f19c f21a f21b f21c f21d f21e f21f f21g f21h f22a f22b f22c f22d f22e f22f f22g f22h; have hE : cpE w a i b j n = -13 := (by unfold cpE; (repeat' split) <;> omega); unfold cpW; rw [if_neg (by intro h; rw [Bool.and_eq_true] at h; have h3 := of_decide_eq_true h.2; rw [hE] at h3; omega)]))⟩
                  · skip
                    refine z_iload C 110 4 dX7_copy_108 rfl rfl ?_
                    refine z_if_lt C 153 113 dX7_copy_110 (by decide) r_j rfl (fun c32 => ?_) (fun c32 => ?_)
                    · skip
                      refine z_bipush C 155 dX7_copy_153 (by decide) rfl ?_
                      exact z_iret C dX7_copy_155 rfl (Nat.le_of_ble_eq_true rfl) (Nat.le_of_ble_eq_true rfl) ⟨congrArg (fun z => some (Value.int (iI z))) (by clear C hκ hκl hS hB hB1 hB2 hB3 hB4 hB5 hB6 hC hD hw L156_1 f17a f17b f17c f19a f19b f19c f21a f21b f21c f21d f21e f21f f21g f21h f22a f22b f22c f22d f22e f22f f22g f22h; have hE : cpE w a i b j n = -13 := (by unfold cpE; (repeat' split) <;> omega); unfold cpI; rw [if_neg (by first | (simp [*]; done) | simp_all), if_pos (by rw [hE]; decide), hE]), (congrArg (fun w' => mP θ am ar w' N) (by clear C hκ hκl hS hB hB1 hB2 hB3 hB4 hB5 hB6 hC hD hw L156_1 f17a f17b f17c f19a f19b f19c f21a f21b f21c f21d f21e f21f f21g f21h f22a f22b f22c f22d f22e f22f f22g f22h; have hE : cpE w a i b j n = -13 := (by unfold cpE; (repeat' split) <;> omega); unfold cpW; rw [if_neg (by intro h; rw [Bool.and_eq_true] at h; have h3 := of_decide_eq_true h.2; rw [hE] at h3; omega)]))⟩
                    · skip
                      refine z_iload C 115 5 dX7_copy_113 rfl rfl ?_
                      refine z_if_lt C 153 118 dX7_copy_115 (by decide) r_n rfl (fun c33 => ?_) (fun c33 => ?_)
                      · skip
                        refine z_bipush C 155 dX7_copy_153 (by decide) rfl ?_
                        exact z_iret C dX7_copy_155 rfl (Nat.le_of_ble_eq_true rfl) (Nat.le_of_ble_eq_true rfl) ⟨congrArg (fun z => some (Value.int (iI z))) (by clear C hκ hκl hS hB hB1 hB2 hB3 hB4 hB5 hB6 hC hD hw L156_1 f17a f17b f17c f19a f19b f19c f21a f21b f21c f21d f21e f21f f21g f21h f22a f22b f22c f22d f22e f22f f22g f22h; have hE : cpE w a i b j n = -13 := (by unfold cpE; (repeat' split) <;> omega); unfold cpI; rw [if_neg (by first | (simp [*]; done) | simp_all), if_pos (by rw [hE]; decide), hE]), (congrArg (fun w' => mP θ am ar w' N) (by clear C hκ hκl hS hB hB1 hB2 hB3 hB4 hB5 hB6 hC hD hw L156_1 f17a f17b f17c f19a f19b f19c f21a f21b f21c f21d f21e f21f f21g f21h f22a f22b f22c f22d f22e f22f f22g f22h; have hE : cpE w a i b j n = -13 := (by unfold cpE; (repeat' split) <;> omega); unfold cpW; rw [if_neg (by intro h; rw [Bool.and_eq_true] at h; have h3 := of_decide_eq_true h.2; rw [hE] at h3; omega)]))⟩
                      · skip
                        refine z_iload_n C 119 2 dX7_copy_118 rfl rfl ?_
                        refine z_i2l C 120 dX7_copy_119 r_i rfl ?_
                        refine z_iload C 122 5 dX7_copy_120 rfl rfl ?_
                        refine z_i2l C 123 dX7_copy_122 r_n rfl ?_
                        refine z_ladd C 124 dX7_copy_123 rfl ?_
                        refine z_aload_n C 125 0 dX7_copy_124 rfl rfl ?_
                        refine m_geta C hκ 128 29 (by decide) rfl q2024 rfl dX7_copy_125 rfl ?_
                        refine z_iload_n C 129 1 dX7_copy_128 rfl rfl ?_
                        refine m_iald (len := 80) C hκ hD 130 29 (by decide) rfl rfl (by omega) (by omega) dX7_copy_129 rfl ?_
                        refine z_i2l C 131 dX7_copy_130 (hw.r _ _ rfl) rfl ?_
                        refine z_lcmp C 132 dX7_copy_131 ⟨by omega, by omega⟩ (hw.l _ _) rfl ?_
                        refine z_ifC_gt C 153 135 dX7_copy_132 (by decide) rfl (fun c34 => ?_) (fun c34 => ?_)
                        · skip
                          refine z_bipush C 155 dX7_copy_153 (by decide) rfl ?_
                          exact z_iret C dX7_copy_155 rfl (Nat.le_of_ble_eq_true rfl) (Nat.le_of_ble_eq_true rfl) ⟨congrArg (fun z => some (Value.int (iI z))) (by clear C hκ hκl hS hB hB1 hB2 hB3 hB4 hB5 hB6 hC hD hw L156_1 f17a f17b f17c f19a f19b f19c f21a f21b f21c f21d f21e f21f f21g f21h f22a f22b f22c f22d f22e f22f f22g f22h; have hE : cpE w a i b j n = -13 := (by unfold cpE; (repeat' split) <;> omega); unfold cpI; rw [if_neg (by first | (simp [*]; done) | simp_all), if_pos (by rw [hE]; decide), hE]), (congrArg (fun w' => mP θ am ar w' N) (by clear C hκ hκl hS hB hB1 hB2 hB3 hB4 hB5 hB6 hC hD hw L156_1 f17a f17b f17c f19a f19b f19c f21a f21b f21c f21d f21e f21f f21g f21h f22a f22b f22c f22d f22e f22f f22g f22h; have hE : cpE w a i b j n = -13 := (by unfold cpE; (repeat' split) <;> omega); unfold cpW; rw [if_neg (by intro h; rw [Bool.and_eq_true] at h; have h3 := of_decide_eq_true h.2; rw [hE] at h3; omega)]))⟩
                        · skip
                          refine z_iload C 137 4 dX7_copy_135 rfl rfl ?_
                          refine z_i2l C 138 dX7_copy_137 r_j rfl ?_
                          refine z_iload C 140 5 dX7_copy_138 rfl rfl ?_
                          refine z_i2l C 141 dX7_copy_140 r_n rfl ?_
                          refine z_ladd C 142 dX7_copy_141 rfl ?_
                          refine z_aload_n C 143 0 dX7_copy_142 rfl rfl ?_
                          refine m_geta C hκ 146 29 (by decide) rfl q2024 rfl dX7_copy_143 rfl ?_
                          refine z_iload_n C 147 3 dX7_copy_146 rfl rfl ?_
                          refine m_iald (len := 80) C hκ hD 148 29 (by decide) rfl rfl (by omega) (by omega) dX7_copy_147 rfl ?_
                          refine z_i2l C 149 dX7_copy_148 (hw.r _ _ rfl) rfl ?_
                          refine z_lcmp C 150 dX7_copy_149 ⟨by omega, by omega⟩ (hw.l _ _) rfl ?_
                          refine z_ifC_le C 156 153 dX7_copy_150 (by decide) rfl (fun c35 => ?_) (fun c35 => ?_)
                          · skip
                            refine z_as (lv' := [(0, .ref (am)), (1, .int (iI (a))), (2, .int (iI (i))), (3, .int (iI (b))), (4, .int (iI (j))), (5, .int (iI (n))), (6, .int (iI (w 4 (w 28 (a))))), (7, .int (iI (w 4 (w 28 (b)))))]) rfl rfl rfl ?_
                            exact L156_1 _  (by assumption) (by assumption) (by clear C hκ hκl; unfold cpE; rw [if_neg (by omega), if_neg (by omega), if_neg (by omega), if_neg (by omega)]) (by omega) (Nat.lt_succ_self _)
                          · skip
                            refine z_bipush C 155 dX7_copy_153 (by decide) rfl ?_
                            exact z_iret C dX7_copy_155 rfl (Nat.le_of_ble_eq_true rfl) (Nat.le_of_ble_eq_true rfl) ⟨congrArg (fun z => some (Value.int (iI z))) (by clear C hκ hκl hS hB hB1 hB2 hB3 hB4 hB5 hB6 hC hD hw L156_1 f17a f17b f17c f19a f19b f19c f21a f21b f21c f21d f21e f21f f21g f21h f22a f22b f22c f22d f22e f22f f22g f22h; have hE : cpE w a i b j n = -13 := (by unfold cpE; (repeat' split) <;> omega); unfold cpI; rw [if_neg (by first | (simp [*]; done) | simp_all), if_pos (by rw [hE]; decide), hE]), (congrArg (fun w' => mP θ am ar w' N) (by clear C hκ hκl hS hB hB1 hB2 hB3 hB4 hB5 hB6 hC hD hw L156_1 f17a f17b f17c f19a f19b f19c f21a f21b f21c f21d f21e f21f f21g f21h f22a f22b f22c f22d f22e f22f f22g f22h; have hE : cpE w a i b j n = -13 := (by unfold cpE; (repeat' split) <;> omega); unfold cpW; rw [if_neg (by intro h; rw [Bool.and_eq_true] at h; have h3 := of_decide_eq_true h.2; rw [hE] at h3; omega)]))⟩
                · skip
                  refine z_iload C 96 6 dX7_copy_94 rfl rfl ?_
                  refine z_iload C 98 7 dX7_copy_96 rfl rfl ?_
                  refine z_icmp_eq C 104 101 dX7_copy_98 (by decide) (hw.r _ _ rfl) (hw.r _ _ rfl) rfl (fun c36 => ?_) (fun c36 => ?_)
                  · skip
                    refine z_iload_n C 105 2 dX7_copy_104 rfl rfl ?_
                    refine z_if_lt C 153 108 dX7_copy_105 (by decide) r_i rfl (fun c37 => ?_) (fun c37 => ?_)
                    · skip
                      refine z_bipush C 155 dX7_copy_153 (by decide) rfl ?_
                      exact z_iret C dX7_copy_155 rfl (Nat.le_of_ble_eq_true rfl) (Nat.le_of_ble_eq_true rfl) ⟨congrArg (fun z => some (Value.int (iI z))) (by clear C hκ hκl hS hB hB1 hB2 hB3 hB4 hB5 hB6 hC hD hw L156_1 f17a f17b f17c f19a f19b f19c f21a f21b f21c f21d f21e f21f f21g f21h f22a f22b f22c f22d f22e f22f f22g f22h; have hE : cpE w a i b j n = -13 := (by unfold cpE; (repeat' split) <;> omega); unfold cpI; rw [if_neg (by first | (simp [*]; done) | simp_all), if_pos (by rw [hE]; decide), hE]), (congrArg (fun w' => mP θ am ar w' N) (by clear C hκ hκl hS hB hB1 hB2 hB3 hB4 hB5 hB6 hC hD hw L156_1 f17a f17b f17c f19a f19b f19c f21a f21b f21c f21d f21e f21f f21g f21h f22a f22b f22c f22d f22e f22f f22g f22h; have hE : cpE w a i b j n = -13 := (by unfold cpE; (repeat' split) <;> omega); unfold cpW; rw [if_neg (by intro h; rw [Bool.and_eq_true] at h; have h3 := of_decide_eq_true h.2; rw [hE] at h3; omega)]))⟩
                    · skip
                      refine z_iload C 110 4 dX7_copy_108 rfl rfl ?_
                      refine z_if_lt C 153 113 dX7_copy_110 (by decide) r_j rfl (fun c38 => ?_) (fun c38 => ?_)
                      · skip
                        refine z_bipush C 155 dX7_copy_153 (by decide) rfl ?_
                        exact z_iret C dX7_copy_155 rfl (Nat.le_of_ble_eq_true rfl) (Nat.le_of_ble_eq_true rfl) ⟨congrArg (fun z => some (Value.int (iI z))) (by clear C hκ hκl hS hB hB1 hB2 hB3 hB4 hB5 hB6 hC hD hw L156_1 f17a f17b f17c f19a f19b f19c f21a f21b f21c f21d f21e f21f f21g f21h f22a f22b f22c f22d f22e f22f f22g f22h; have hE : cpE w a i b j n = -13 := (by unfold cpE; (repeat' split) <;> omega); unfold cpI; rw [if_neg (by first | (simp [*]; done) | simp_all), if_pos (by rw [hE]; decide), hE]), (congrArg (fun w' => mP θ am ar w' N) (by clear C hκ hκl hS hB hB1 hB2 hB3 hB4 hB5 hB6 hC hD hw L156_1 f17a f17b f17c f19a f19b f19c f21a f21b f21c f21d f21e f21f f21g f21h f22a f22b f22c f22d f22e f22f f22g f22h; have hE : cpE w a i b j n = -13 := (by unfold cpE; (repeat' split) <;> omega); unfold cpW; rw [if_neg (by intro h; rw [Bool.and_eq_true] at h; have h3 := of_decide_eq_true h.2; rw [hE] at h3; omega)]))⟩
                      · skip
                        refine z_iload C 115 5 dX7_copy_113 rfl rfl ?_
                        refine z_if_lt C 153 118 dX7_copy_115 (by decide) r_n rfl (fun c39 => ?_) (fun c39 => ?_)
                        · skip
                          refine z_bipush C 155 dX7_copy_153 (by decide) rfl ?_
                          exact z_iret C dX7_copy_155 rfl (Nat.le_of_ble_eq_true rfl) (Nat.le_of_ble_eq_true rfl) ⟨congrArg (fun z => some (Value.int (iI z))) (by clear C hκ hκl hS hB hB1 hB2 hB3 hB4 hB5 hB6 hC hD hw L156_1 f17a f17b f17c f19a f19b f19c f21a f21b f21c f21d f21e f21f f21g f21h f22a f22b f22c f22d f22e f22f f22g f22h; have hE : cpE w a i b j n = -13 := (by unfold cpE; (repeat' split) <;> omega); unfold cpI; rw [if_neg (by first | (simp [*]; done) | simp_all), if_pos (by rw [hE]; decide), hE]), (congrArg (fun w' => mP θ am ar w' N) (by clear C hκ hκl hS hB hB1 hB2 hB3 hB4 hB5 hB6 hC hD hw L156_1 f17a f17b f17c f19a f19b f19c f21a f21b f21c f21d f21e f21f f21g f21h f22a f22b f22c f22d f22e f22f f22g f22h; have hE : cpE w a i b j n = -13 := (by unfold cpE; (repeat' split) <;> omega); unfold cpW; rw [if_neg (by intro h; rw [Bool.and_eq_true] at h; have h3 := of_decide_eq_true h.2; rw [hE] at h3; omega)]))⟩
                        · skip
                          refine z_iload_n C 119 2 dX7_copy_118 rfl rfl ?_
                          refine z_i2l C 120 dX7_copy_119 r_i rfl ?_
                          refine z_iload C 122 5 dX7_copy_120 rfl rfl ?_
                          refine z_i2l C 123 dX7_copy_122 r_n rfl ?_
                          refine z_ladd C 124 dX7_copy_123 rfl ?_
                          refine z_aload_n C 125 0 dX7_copy_124 rfl rfl ?_
                          refine m_geta C hκ 128 29 (by decide) rfl q2024 rfl dX7_copy_125 rfl ?_
                          refine z_iload_n C 129 1 dX7_copy_128 rfl rfl ?_
                          refine m_iald (len := 80) C hκ hD 130 29 (by decide) rfl rfl (by omega) (by omega) dX7_copy_129 rfl ?_
                          refine z_i2l C 131 dX7_copy_130 (hw.r _ _ rfl) rfl ?_
                          refine z_lcmp C 132 dX7_copy_131 ⟨by omega, by omega⟩ (hw.l _ _) rfl ?_
                          refine z_ifC_gt C 153 135 dX7_copy_132 (by decide) rfl (fun c40 => ?_) (fun c40 => ?_)
                          · skip
                            refine z_bipush C 155 dX7_copy_153 (by decide) rfl ?_
                            exact z_iret C dX7_copy_155 rfl (Nat.le_of_ble_eq_true rfl) (Nat.le_of_ble_eq_true rfl) ⟨congrArg (fun z => some (Value.int (iI z))) (by clear C hκ hκl hS hB hB1 hB2 hB3 hB4 hB5 hB6 hC hD hw L156_1 f17a f17b f17c f19a f19b f19c f21a f21b f21c f21d f21e f21f f21g f21h f22a f22b f22c f22d f22e f22f f22g f22h; have hE : cpE w a i b j n = -13 := (by unfold cpE; (repeat' split) <;> omega); unfold cpI; rw [if_neg (by first | (simp [*]; done) | simp_all), if_pos (by rw [hE]; decide), hE]), (congrArg (fun w' => mP θ am ar w' N) (by clear C hκ hκl hS hB hB1 hB2 hB3 hB4 hB5 hB6 hC hD hw L156_1 f17a f17b f17c f19a f19b f19c f21a f21b f21c f21d f21e f21f f21g f21h f22a f22b f22c f22d f22e f22f f22g f22h; have hE : cpE w a i b j n = -13 := (by unfold cpE; (repeat' split) <;> omega); unfold cpW; rw [if_neg (by intro h; rw [Bool.and_eq_true] at h; have h3 := of_decide_eq_true h.2; rw [hE] at h3; omega)]))⟩
                          · skip
                            refine z_iload C 137 4 dX7_copy_135 rfl rfl ?_
                            refine z_i2l C 138 dX7_copy_137 r_j rfl ?_
                            refine z_iload C 140 5 dX7_copy_138 rfl rfl ?_
                            refine z_i2l C 141 dX7_copy_140 r_n rfl ?_
                            refine z_ladd C 142 dX7_copy_141 rfl ?_
                            refine z_aload_n C 143 0 dX7_copy_142 rfl rfl ?_
                            refine m_geta C hκ 146 29 (by decide) rfl q2024 rfl dX7_copy_143 rfl ?_
                            refine z_iload_n C 147 3 dX7_copy_146 rfl rfl ?_
                            refine m_iald (len := 80) C hκ hD 148 29 (by decide) rfl rfl (by omega) (by omega) dX7_copy_147 rfl ?_
                            refine z_i2l C 149 dX7_copy_148 (hw.r _ _ rfl) rfl ?_
                            refine z_lcmp C 150 dX7_copy_149 ⟨by omega, by omega⟩ (hw.l _ _) rfl ?_
                            refine z_ifC_le C 156 153 dX7_copy_150 (by decide) rfl (fun c41 => ?_) (fun c41 => ?_)
                            · skip
                              refine z_as (lv' := [(0, .ref (am)), (1, .int (iI (a))), (2, .int (iI (i))), (3, .int (iI (b))), (4, .int (iI (j))), (5, .int (iI (n))), (6, .int (iI (w 4 (w 28 (a))))), (7, .int (iI (w 4 (w 28 (b)))))]) rfl rfl rfl ?_
                              exact L156_1 _  (by assumption) (by assumption) (by clear C hκ hκl; unfold cpE; rw [if_neg (by omega), if_neg (by omega), if_neg (by omega), if_neg (by omega)]) (by omega) (Nat.lt_succ_self _)
                            · skip
                              refine z_bipush C 155 dX7_copy_153 (by decide) rfl ?_
                              exact z_iret C dX7_copy_155 rfl (Nat.le_of_ble_eq_true rfl) (Nat.le_of_ble_eq_true rfl) ⟨congrArg (fun z => some (Value.int (iI z))) (by clear C hκ hκl hS hB hB1 hB2 hB3 hB4 hB5 hB6 hC hD hw L156_1 f17a f17b f17c f19a f19b f19c f21a f21b f21c f21d f21e f21f f21g f21h f22a f22b f22c f22d f22e f22f f22g f22h; have hE : cpE w a i b j n = -13 := (by unfold cpE; (repeat' split) <;> omega); unfold cpI; rw [if_neg (by first | (simp [*]; done) | simp_all), if_pos (by rw [hE]; decide), hE]), (congrArg (fun w' => mP θ am ar w' N) (by clear C hκ hκl hS hB hB1 hB2 hB3 hB4 hB5 hB6 hC hD hw L156_1 f17a f17b f17c f19a f19b f19c f21a f21b f21c f21d f21e f21f f21g f21h f22a f22b f22c f22d f22e f22f f22g f22h; have hE : cpE w a i b j n = -13 := (by unfold cpE; (repeat' split) <;> omega); unfold cpW; rw [if_neg (by intro h; rw [Bool.and_eq_true] at h; have h3 := of_decide_eq_true h.2; rw [hE] at h3; omega)]))⟩
                  · skip
                    refine z_bipush C 103 dX7_copy_101 (by decide) rfl ?_
                    exact z_iret C dX7_copy_103 rfl (Nat.le_of_ble_eq_true rfl) (Nat.le_of_ble_eq_true rfl) ⟨congrArg (fun z => some (Value.int (iI z))) (by clear C hκ hκl hS hB hB1 hB2 hB3 hB4 hB5 hB6 hC hD hw L156_1 f17a f17b f17c f19a f19b f19c f21a f21b f21c f21d f21e f21f f21g f21h f22a f22b f22c f22d f22e f22f f22g f22h; have hE : cpE w a i b j n = -14 := (by unfold cpE; (repeat' split) <;> omega); unfold cpI; rw [if_neg (by first | (simp [*]; done) | simp_all), if_pos (by rw [hE]; decide), hE]), (congrArg (fun w' => mP θ am ar w' N) (by clear C hκ hκl hS hB hB1 hB2 hB3 hB4 hB5 hB6 hC hD hw L156_1 f17a f17b f17c f19a f19b f19c f21a f21b f21c f21d f21e f21f f21g f21h f22a f22b f22c f22d f22e f22f f22g f22h; have hE : cpE w a i b j n = -14 := (by unfold cpE; (repeat' split) <;> omega); unfold cpW; rw [if_neg (by intro h; rw [Bool.and_eq_true] at h; have h3 := of_decide_eq_true h.2; rw [hE] at h3; omega)]))⟩
            · skip
              refine z_bipush C 53 dX7_copy_51 (by decide) rfl ?_
              exact z_iret C dX7_copy_53 rfl (Nat.le_of_ble_eq_true rfl) (Nat.le_of_ble_eq_true rfl) ⟨congrArg (fun z => some (Value.int (iI z))) (by clear C hκ hκl hS hB hB1 hB2 hB3 hB4 hB5 hB6 hC hD hw L156_1 f17a f17b f17c f19a f19b f19c; have hE : cpE w a i b j n = -14 := (by unfold cpE; (repeat' split) <;> omega); unfold cpI; rw [if_neg (by first | (simp [*]; done) | simp_all), if_pos (by rw [hE]; decide), hE]), (congrArg (fun w' => mP θ am ar w' N) (by clear C hκ hκl hS hB hB1 hB2 hB3 hB4 hB5 hB6 hC hD hw L156_1 f17a f17b f17c f19a f19b f19c; have hE : cpE w a i b j n = -14 := (by unfold cpE; (repeat' split) <;> omega); unfold cpW; rw [if_neg (by intro h; rw [Bool.and_eq_true] at h; have h3 := of_decide_eq_true h.2; rw [hE] at h3; omega)]))⟩
        · skip
          refine z_bipush C 30 dX7_copy_28 (by decide) rfl ?_
          exact z_iret C dX7_copy_30 rfl (Nat.le_of_ble_eq_true rfl) (Nat.le_of_ble_eq_true rfl) ⟨congrArg (fun z => some (Value.int (iI z))) (by clear C hκ hκl hS hB hB1 hB2 hB3 hB4 hB5 hB6 hC hD hw L156_1; have hE : cpE w a i b j n = -11 := (by unfold cpE; (repeat' split) <;> omega); unfold cpI; rw [if_neg (by first | (simp [*]; done) | simp_all), if_pos (by rw [hE]; decide), hE]), (congrArg (fun w' => mP θ am ar w' N) (by clear C hκ hκl hS hB hB1 hB2 hB3 hB4 hB5 hB6 hC hD hw L156_1; have hE : cpE w a i b j n = -11 := (by unfold cpE; (repeat' split) <;> omega); unfold cpW; rw [if_neg (by intro h; rw [Bool.and_eq_true] at h; have h3 := of_decide_eq_true h.2; rw [hE] at h3; omega)]))⟩
    · skip
      have c14b : ¬ ((b) = -1 ∨ (0 ≤ (b) ∧ (b) < w 27 0)) := of_decide_eq_false c14
      refine z_iconst C 17 dX7_copy_16 rfl ?_
      exact z_iret C dX7_copy_17 rfl (Nat.le_of_ble_eq_true rfl) (Nat.le_of_ble_eq_true rfl) ⟨congrArg (fun z => some (Value.int (iI z))) (by clear C hκ hκl hS hB hB1 hB2 hB3 hB4 hB5 hB6 hC hD hw L156_1; unfold cpI; rw [if_pos]; simp [*]), (congrArg (fun w' => mP θ am ar w' N) (by clear C hκ hκl hS hB hB1 hB2 hB3 hB4 hB5 hB6 hC hD hw L156_1; unfold cpW; rw [if_neg]; simp [*]))⟩
