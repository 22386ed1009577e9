/-! ===== the Model: a body is worked ===== -/
/-- the same but for what a body came to -/
def sC (w w' : mW) : Prop := ∀ (k : Nat) (i : Int), k ≠ 49 → k ≠ 50 → w' k i = w k i
def nrmC (w : mW) : mW := fun k i => if k = 49 ∨ k = 50 then 0 else w k i
theorem nrmC_eq {w w' : mW} (h : sC w w') : nrmC w' = nrmC w := by
  funext k i
  unfold nrmC
  by_cases e : k = 49 ∨ k = 50
  · rw [if_pos e, if_pos e]
  · rw [if_neg e, if_neg e, h k i (fun z => e (Or.inl z)) (fun z => e (Or.inr z))]
theorem C_of {α : Sort _} (F : mW → α) (hF : ∀ w, F (nrmC w) = F w) {w w' : mW} (h : sC w w') : F w' = F w := by rw [← hF w', ← hF w, nrmC_eq h]
theorem cmW_C {w : mW} {t b : Int} : sC w (cmW w t b) := fun k i h1 h2 => by unfold cmW; rw [mset_k h2, mset_k h1]
def abB (w : mW) (m : Int) : Bool := mtB w (w 25 m) && !hasB w (w 25 m) 16 && !hasB w (w 25 m) 4 && !prB w (w 25 m) && likeB w (w 25 m) m && isa w (w 13 m) (w 13 (w 25 m))
/-- a method's body is such as its kind asks -/
def bfB (w : mW) (m : Int) : Bool :=
  let k := w 22 m; let x := w 23 m; let y := w 24 m
  if k = 0 then true else if k = 1 then ipB w m x else if k = 2 then fdB w x && reB w m x else if k = 3 then fdB w x && ipB w m y && reB w m x && giB w (w 19 (3 * m + y)) (w 17 x)
  else if k = 4 then decide (1 ≤ x ∧ x ≤ 8) else if k = 5 then mcF w m x else if k = 6 then inB w m x && inB w m y else if k = 7 then !hasB w m 4 && abB w m
  else decide (k = 8) && ipB w m x && ipB w m y && decide (w 1 (w 19 (3 * m + x)) = 4) && decide (w 19 (3 * m + y) < 8) && wdB (w 19 (3 * m + y)) 4
def wkM (w : mW) : Int := w 46 (w 45 0 - 1)
def wkA (w : mW) (i : Int) : Int := w 47 (3 * (w 45 0 - 1) + i)
/-- what types are to each other -/
def mTy (w : mW) : Prop := (∀ t : Int, 0 ≤ t → t < w 0 0 → isa w t t = true) ∧ (∀ a b c : Int, 0 ≤ a → a < w 0 0 → 0 ≤ b → b < w 0 0 → 0 ≤ c → c < w 0 0 → isa w a b = true → isa w b c = true → isa w a c = true) ∧ (∀ a b : Int, 0 ≤ a → a < w 0 0 → 0 ≤ b → b < w 0 0 → isa w a b = true → w 1 b = 4 → a = b ∨ (w 1 a = 4 ∧ 8 ≤ w 4 a ∧ 8 ≤ w 4 b)) ∧ (∀ t : Int, 0 ≤ t → t < 8 → w 1 t = 0)
def bfC (w : mW) (m : Int) : Bool := decide (bdC w m (w 22 m) (w 23 m) (w 24 m) = -1) || decide (w 17 m = -1) || giB w (bdC w m (w 22 m) (w 23 m) (w 24 m)) (w 17 m)
def mBd (w : mW) : Prop := ∀ m : Int, mtB w m = true → bfB w m = true ∧ bfC w m = true
/-- a value fits a type, and is of it -/
def agB (w : mW) (t b : Int) : Bool := ftB w t b && (decide (t < 8) || decide (b < 0) || isa w (w 28 b) t)
/-- the method that was opened last can be worked -/
def wkP (w : mW) : Prop := mS w ∧ mV w ∧ (1 ≤ w 45 0 ∧ w 45 0 ≤ 12) ∧ mtB w (wkM w) = true ∧ mBd w ∧ (∀ i : Int, 0 ≤ i → i < w 18 (wkM w) → agB w (w 19 (3 * wkM w + i)) (wkA w i) = true) ∧ (hasB w (wkM w) 4 = false → 0 ≤ w 48 0 ∧ w 48 0 < w 27 0) ∧ mTy w
theorem wkP_C {w w' : mW} (h : sC w w') (hP : wkP w) : wkP w' := by rw [C_of wkP (fun _ => rfl) h]; exact hP
def w8B (w : mW) (x y : Int) : Bool := decide (0 ≤ wkA w x) && decide (0 ≤ wkA w y ∧ wkA w y < w 29 (wkA w x))
/-- what a body does, behind that it came to nothing yet -/
def wkW (w : mW) (m k x y : Int) : mW :=
  if k = 1 then cmW w (w 19 (3 * m + x)) (wkA w x) else if k = 2 then cmW w (w 17 x) (fvL w x (w 48 0)) else if k = 3 then sfW w x (w 48 0) (wdL (wkA w y) (w 19 (3 * m + y)) (w 17 x))
  else if k = 4 then flW w x m (w 45 0 - 1) else if k = 5 then beW w x false else if k = 6 then adW w m (wkA w x) (wkA w y) (w 19 (3 * m + x)) (w 19 (3 * m + y)) else if k = 7 then beW w (w 25 m) true
  else if k = 8 then (if w8B w x y then cmW w (w 4 (w 19 (3 * m + x))) (w 31 (20 * wkA w x + wkA w y)) else flW w (if wkA w x < 0 then 1 else 3) m (w 45 0 - 1)) else w
def wkI (w : mW) (m k x y : Int) : Int := if k = 5 then beI w x false else if k = 7 then beI w (w 25 m) true else -1
def woW (w : mW) : mW := wkW (cmW w (-1) 0) (wkM w) (w 22 (wkM w)) (w 23 (wkM w)) (w 24 (wkM w))
def woI (w : mW) : Int := wkI (cmW w (-1) 0) (wkM w) (w 22 (wkM w)) (w 23 (wkM w)) (w 24 (wkM w))
theorem w32_id {z : Int} (h : inR z) : w32 z = z := iI_toInt h
theorem ft_nu {w : mW} {p b : Int} (h : ftB w p b = true) : nuB p b := by
  refine ⟨fun e => ?_, fun e => ?_⟩
  · subst e; exact ft6 (t := 6) h rfl (by decide)
  · subst e
    unfold ftB at h
    simpa using h
theorem ft_R {w : mW} {p b : Int} (h : ftB w p b = true) (h0 : 0 ≤ p) (h7 : p ≤ 4) : inR b := by
  unfold ftB at h
  (repeat' split at h) <;> (try omega) <;> (have h := of_decide_eq_true h; exact ⟨by omega, by omega⟩)
/-! ===== the Model: a method is opened ===== -/
def opA (w : mW) (o told : Int) : Nat → mW
  | 0 => w
  | n + 1 => mset (opA w o told n) 47 (3 * w 45 0 + n) (wdL (opA w o told n 47 (3 * (w 45 0 - 1) + n)) (w 19 (3 * o + n)) (w 19 (3 * told + n)))
theorem opA_k {w : mW} {o told : Int} {k : Nat} (hk : k ≠ 47) : ∀ (n : Nat) (i : Int), opA w o told n k i = w k i
  | 0, _ => rfl
  | n + 1, i => by simp only [opA]; rw [mset_k hk, opA_k hk n i]
theorem opA_old {w : mW} {o told : Int} {i : Int} (h : i < 3 * w 45 0) : ∀ n : Nat, opA w o told n 47 i = w 47 i
  | 0 => rfl
  | n + 1 => by simp only [opA]; rw [mset_i (by omega), opA_old h n]
theorem opA_new {w : mW} {o told : Int} : ∀ {n j : Nat}, j < n → n ≤ 3 → opA w o told n 47 (3 * w 45 0 + j) = wdL (w 47 (3 * (w 45 0 - 1) + j)) (w 19 (3 * o + j)) (w 19 (3 * told + j))
  | 0, _, h, _ => absurd h (Nat.not_lt_zero _)
  | n + 1, j, h, h3 => by
    simp only [opA]
    by_cases e : j = n
    · subst e; rw [mset_s, opA_old (by omega)]
    · rw [mset_i (by omega)]; exact opA_new (by omega) (by omega)
def opW (w : mW) (m told : Int) : mW := mset (mset (mset (opA w (wkM w) told (w 18 told).toNat) 46 (w 45 0) m) 45 0 (w 45 0 + 1)) 35 0 (w 35 0 + 1)
theorem opA_S {w w' : mW} {o told : Int} (h : sS w w') : ∀ n : Nat, sS w (opA w' o told n)
  | 0 => h
  | n + 1 => (opA_S h n).set (by omega)
theorem opA_wf {w : mW} {o told : Int} (hw : mWF w) : ∀ n : Nat, mWF (opA w o told n)
  | 0 => hw
  | n + 1 => (opA_wf hw n).setL (wdL_L ((opA_wf hw n).l _ _)) rfl rfl
theorem opW_S {w : mW} {m told : Int} : sS w (opW w m told) := (((opA_S sS.refl _).set (by omega)).set (by omega)).set (by omega)
theorem opW_wf {w : mW} {m told : Int} (hw : mWF w) (hm : inR m) (ho : 0 ≤ w 45 0 ∧ w 45 0 ≤ 12) (h35 : 0 ≤ w 35 0 ∧ w 35 0 ≤ 1000000) : mWF (opW w m told) :=
  (((opA_wf hw _).set hm rfl).set ⟨by omega, by omega⟩ rfl).set ⟨by omega, by omega⟩ rfl
/-! ===== the Model: all that is open ends ===== -/
def clW1 (w : mW) : mW := 
  if w 17 (wkM w) = -1 then cmW (mset w 45 0 (w 45 0 - 1)) (-1) 0 else if w 49 0 = -1 then cmW (mset w 45 0 (w 45 0 - 1)) (w 17 (wkM w)) (noneI (w 17 (wkM w))) else cmW (mset w 45 0 (w 45 0 - 1)) (w 17 (wkM w)) (wdL (w 50 0) (w 49 0) (w 17 (wkM w)))
def caW : Nat → mW → mW
  | 0, w => w
  | n + 1, w => caW n (clW1 w)
def cvB (w : mW) (a b : Int) : Bool := decide (a = -1) || decide (b = -1) || decide (a = b) || giB w a b
def chP (w : mW) (n : Nat) : Prop := (∀ j : Int, 0 ≤ j → j < n → mtB w (w 46 j) = true) ∧ (∀ j : Int, 0 ≤ j → j + 1 < n → cvB w (w 17 (w 46 (j + 1))) (w 17 (w 46 j)) = true)
/-- each that is open can end -/
def clP (w : mW) (n : Nat) : Prop := mS w ∧ w 45 0 = n ∧ n ≤ 12 ∧ chP w n ∧ (0 < n → cvB w (w 49 0) (w 17 (wkM w)) = true) ∧ (w 49 0 ≠ -1 → 0 ≤ w 49 0 ∧ w 49 0 < 60 ∧ ftB w (w 49 0) (w 50 0) = true)
theorem l2_ok (x : Int64) : zlandd (sI (FP.l2d x)) 9223372036854775807 ≤ 9218868437227405312 := sI_ok (l2d_vf x)
/-- a value that is widened fits -/
theorem wd_ft {w : mW} {f t b : Int} (h : ftB w f b = true) (hg : giB w f t = true) (hf : 0 ≤ f) : ftB w t (wdL b f t) = true := by
  unfold giB at hg
  by_cases h8 : f < 8
  · rw [if_pos h8] at hg
    simp only [Bool.and_eq_true, decide_eq_true_eq, wdB] at hg
    obtain ⟨ht, hw⟩ := hg
    by_cases e : f = t
    · subst e; unfold wdL; rw [if_pos (Or.inl rfl)]; exact h
    have hnu := ft_nu h
    by_cases t6 : t = 6
    · subst t6
      have := wd6 (a := b) (p := f) (by omega) hnu
      unfold ftB
      simp only [show ¬ ((6 : Int) = 0) from by decide, show ¬ ((6 : Int) = 1) from by decide, show ¬ ((6 : Int) = 2) from by decide, show ¬ ((6 : Int) = 3) from by decide, show ¬ ((6 : Int) = 4) from by decide, show ¬ ((6 : Int) = 5) from by decide, if_false, if_true, Bool.and_eq_true, decide_eq_true_eq]
      exact ⟨this.1, this.2⟩
    by_cases t7 : t = 7
    · subst t7
      have := wd7 (a := b) (p := f) (by omega) hnu
      unfold ftB
      simp only [show ¬ ((7 : Int) = 0) from by decide, show ¬ ((7 : Int) = 1) from by decide, show ¬ ((7 : Int) = 2) from by decide, show ¬ ((7 : Int) = 3) from by decide, show ¬ ((7 : Int) = 4) from by decide, show ¬ ((7 : Int) = 5) from by decide, show ¬ ((7 : Int) = 6) from by decide, if_false, if_true, decide_eq_true_eq]
      exact this
    unfold wdL; rw [if_pos (by omega)]
    unfold ftB at h ⊢
    have ht5 : t = 3 ∨ t = 4 ∨ t = 5 := by omega
    rcases ht5 with rfl | rfl | rfl
    · have : f = 2 := by omega
      subst this; simp at h ⊢; omega
    · have : f = 1 ∨ f = 2 ∨ f = 3 := by omega
      rcases this with rfl | rfl | rfl <;> simp at h ⊢ <;> omega
    · simp
  · rw [if_neg h8] at hg
    simp only [Bool.and_eq_true, decide_eq_true_eq] at hg
    have := ft8 h (by omega)
    unfold wdL; rw [if_pos (by omega)]
    unfold ftB
    rw [if_neg (by omega), if_neg (by omega), if_neg (by omega), if_neg (by omega), if_neg (by omega), if_neg (by omega), if_neg (by omega), if_neg (by omega)]
    simp; omega
theorem ft_none {w : mW} {t : Int} (h : 0 ≤ t) (h27 : 0 ≤ w 27 0) : ftB w t (noneI t) = true := by
  unfold noneI
  by_cases h8 : 8 ≤ t
  · rw [if_pos h8]; unfold ftB
    rw [if_neg (by omega), if_neg (by omega), if_neg (by omega), if_neg (by omega), if_neg (by omega), if_neg (by omega), if_neg (by omega), if_neg (by omega)]
    simp; omega
  · rw [if_neg h8]
    have : t = 0 ∨ t = 1 ∨ t = 2 ∨ t = 3 ∨ t = 4 ∨ t = 5 ∨ t = 6 ∨ t = 7 := by omega
    rcases this with rfl | rfl | rfl | rfl | rfl | rfl | rfl | rfl <;> unfold ftB <;> simp <;> decide
theorem beW_wf {w : mW} {m : Int} {it : Bool} (hw : mWF w) (hm : inR m) (ho : 0 ≤ w 45 0 ∧ w 45 0 ≤ 12) : mWF (beW w m it) := by
  unfold beW
  split
  · exact flW_wf hw ⟨by decide, by decide⟩ hm ⟨by omega, by omega⟩
  · split
    · exact flW_wf hw ⟨by decide, by decide⟩ hm ⟨by omega, by omega⟩
    · exact hw
theorem beI_r {w : mW} {m : Int} {it : Bool} (h : 0 ≤ w 11 0) (hm : 0 ≤ m ∧ m < w 11 0) : -1 ≤ beI w m it ∧ beI w m it < w 11 0 := by
  unfold beI
  split
  · omega
  · split
    · exact foI_r h
    · omega
theorem ag_ft {w : mW} {t b : Int} (h : agB w t b = true) : ftB w t b = true := by unfold agB at h; simp only [Bool.and_eq_true] at h; exact h.1

set_option maxRecDepth 100000 in
theorem k7_works {l : Launch} {θ : zTh} {N : zMap} {am : Nat} {ar : Nat → Nat} {w : mW} (hD : mDis am ar) (hw : mWF w)   (hP : wkP w) : ZF θ l yX7_works cX7_works 7 (some .int) ⟨5, 0, 0, 115⟩ [.ref (am)] (mP θ am ar w N) (some (.int (iI (woI w)))) (mP θ am ar (woW w) N) := by
  refine z_start (own := RX7) (nm := "works") pnX7 rfl rfl (Nat.le_of_ble_eq_true rfl) ?_
  intro κ hκ hκl C
  change Z κ (mP θ am ar w N) 0 0 0 [(0, .ref (am))] []
  have hP0 := hP
  obtain ⟨hS, hV, ho, hmt, -, -, -, -⟩ := hP
  have h60 := hS.B.2.1; have h100w := hS.B.2.2.2.1
  have hmt0 := of_decide_eq_true hmt
  refine z_aload_n C 1 0 dX7_works_0 rfl rfl ?_
  refine m_geta C hκ 4 46 (by decide) rfl q2041 rfl dX7_works_1 rfl ?_
  refine z_aload_n C 5 0 dX7_works_4 rfl rfl ?_
  refine m_geti C hκ 8 45 (by decide) rfl q2040 rfl dX7_works_5 rfl ?_
  refine z_iconst C 9 dX7_works_8 rfl ?_
  refine z_isub C 10 dX7_works_9 rfl ?_
  refine m_iald (len := 14) C hκ hD 11 46 (by decide) rfl rfl (by omega) (by omega) dX7_works_10 rfl ?_
  obtain ⟨m, em⟩ : ∃ z, w 46 ((w 45 0) - (1)) = z := ⟨_, rfl⟩
  rw [em]
  have em0 : wkM w = m := em
  rw [em0] at hmt0
  refine z_istore_n (lv' := [(0, .ref (am)), (1, .int (iI (m)))]) C 12 [1, 0] dX7_works_11 (by decide) rfl rfl ?_
  refine z_iconst C 13 dX7_works_12 rfl ?_
  refine z_aload_n C 14 0 dX7_works_13 rfl rfl ?_
  refine m_geti C hκ 17 45 (by decide) rfl q2040 rfl dX7_works_14 rfl ?_
  refine z_iconst C 18 dX7_works_17 rfl ?_
  refine z_isub C 19 dX7_works_18 rfl ?_
  refine z_imul C 20 dX7_works_19 rfl ?_
  obtain ⟨A, eA⟩ : ∃ z, (3) * ((w 45 0) - (1)) = z := ⟨_, rfl⟩
  rw [eA]
  refine z_istore_n (lv' := [(0, .ref (am)), (1, .int (iI (m))), (2, .int (iI (A)))]) C 21 [1, 2, 0] dX7_works_20 (by decide) rfl rfl ?_
  refine z_aload_n C 22 0 dX7_works_21 rfl rfl ?_
  refine m_geta C hκ 25 23 (by decide) rfl q2018 rfl dX7_works_22 rfl ?_
  refine z_iload_n C 26 1 dX7_works_25 rfl rfl ?_
  refine m_iald (len := 100) C hκ hD 27 23 (by decide) rfl rfl (by omega) (by omega) dX7_works_26 rfl ?_
  obtain ⟨x, ex⟩ : ∃ z, w 23 (m) = z := ⟨_, rfl⟩
  rw [ex]
  refine z_istore_n (lv' := [(0, .ref (am)), (1, .int (iI (m))), (2, .int (iI (A))), (3, .int (iI (x)))]) C 28 [1, 2, 3, 0] dX7_works_27 (by decide) rfl rfl ?_
  refine z_aload_n C 29 0 dX7_works_28 rfl rfl ?_
  refine m_geta C hκ 32 24 (by decide) rfl q2019 rfl dX7_works_29 rfl ?_
  refine z_iload_n C 33 1 dX7_works_32 rfl rfl ?_
  refine m_iald (len := 100) C hκ hD 34 24 (by decide) rfl rfl (by omega) (by omega) dX7_works_33 rfl ?_
  obtain ⟨y, ey⟩ : ∃ z, w 24 (m) = z := ⟨_, rfl⟩
  rw [ey]
  refine z_istore (lv' := [(0, .ref (am)), (1, .int (iI (m))), (2, .int (iI (A))), (3, .int (iI (x))), (4, .int (iI (y)))]) C 36 [1, 2, 3, 4, 0] dX7_works_34 (by decide) rfl rfl ?_
  refine z_aload_n C 37 0 dX7_works_36 rfl rfl ?_
  refine z_iconst C 38 dX7_works_37 rfl ?_
  refine z_lconst (x := 0) C 39 dX7_works_38 rfl rfl ?_
  refine z_callVF0 (n' := 0) (k' := 0) (As := [.int (iI (-1)), .long (lI (0))]) (rest := []) C hκ hκl 42 (k7_comesTo hD hw (-1) (0) ⟨by decide, by decide⟩ ⟨by decide, by decide⟩) dX7_works_39 q2540 q2542 qs85 q97 q2543 znX7_comesTo (Nat.le_of_ble_eq_true rfl) (Nat.le_of_ble_eq_true rfl) (Nat.le_of_ble_eq_true rfl) (Nat.le_of_ble_eq_true rfl) mrec rfl rfl (Nat.le_of_ble_eq_true rfl) rfl rfl rfl ?_
  obtain ⟨w1, ew1⟩ : ∃ wz, (mset (mset w 49 0 (-1)) 50 0 (0)) = wz := ⟨_, rfl⟩
  rw [ew1]
  have hw1 : mWF w1 := ew1 ▸ ((hw.set ⟨by decide, by decide⟩ rfl).setL ⟨by decide, by decide⟩ rfl rfl)
  have hC1 : sC w w1 := ew1 ▸ cmW_C
  have hP1 : wkP w1 := wkP_C hC1 hP0
  have em1 : wkM w1 = m := by rw [← em0]; exact C_of wkM (fun _ => rfl) hC1
  have hA : ∀ i : Int, wkA w1 i = w1 47 (A + i) := fun i => by unfold wkA; rw [hC1 45 0 (by decide) (by decide), ← eA]
  have ex1 : w1 23 m = x := by rw [hC1 23 _ (by decide) (by decide)]; exact ex
  have ey1 : w1 24 m = y := by rw [hC1 24 _ (by decide) (by decide)]; exact ey
  have hW : woW w = wkW w1 m (w1 22 m) x y := by rw [← ex1, ← ey1, woW, em0, show cmW w (-1) 0 = w1 from ew1, hC1 22 _ (by decide) (by decide), hC1 23 _ (by decide) (by decide), hC1 24 _ (by decide) (by decide)]
  have hI : woI w = wkI w1 m (w1 22 m) x y := by rw [← ex1, ← ey1, woI, em0, show cmW w (-1) 0 = w1 from ew1, hC1 22 _ (by decide) (by decide), hC1 23 _ (by decide) (by decide), hC1 24 _ (by decide) (by decide)]
  obtain ⟨hS1, hV1, ho1, hm1, hbd1, ha1, hs1, hTy1⟩ := hP1
  rw [em1] at hm1 ha1 hs1
  have hb1 := (hbd1 m hm1).1
  have hR8 := hTy1.2.2.2
  have hm1 := of_decide_eq_true hm1
  obtain ⟨ma, mb1, mc, md⟩ := hS1.M hm1.1 hm1.2.1
  have h60' := hS1.B.2.1
  have h100 := hS1.B
  obtain ⟨g1, g2, g3, g4, g5, g6⟩ := hS1.B
  have eA1 : A = 3 * (w1 45 0 - 1) := by rw [hC1 45 0 (by decide) (by decide)]; exact eA.symm
  have r48 : ∀ i, inR (w1 48 i) := fun i => hw1.r _ _ rfl
  have r47 : ∀ i, inL (w1 47 i) := fun i => hw1.l _ _
  refine z_aload_n C 43 0 dX7_works_42 rfl rfl ?_
  refine m_geta C hκ 46 22 (by decide) rfl q2017 rfl dX7_works_43 rfl ?_
  refine z_iload_n C 47 1 dX7_works_46 rfl rfl ?_
  refine m_iald (len := 100) C hκ hD 48 22 (by decide) rfl rfl (by omega) (by omega) dX7_works_47 rfl ?_
  obtain ⟨k, ek⟩ : ∃ z, w1 22 (m) = z := ⟨_, rfl⟩
  rw [ek]
  rw [ek] at hW hI
  have c1r : inR (k) := (by rw [← ek]; exact hw1.r _ _ rfl)
  rcases (show k = 1 ∨ k = 2 ∨ k = 3 ∨ k = 4 ∨ k = 5 ∨ k = 6 ∨ k = 7 ∨ k = 8 ∨ (k < 1 ∨ 8 < k) by omega) with c1 | c1 | c1 | c1 | c1 | c1 | c1 | c1 | c1
  · skip
    refine z_tsIn C (k) 96 (off := 48) dX7_works_48 c1r (by omega) (by omega) (by rw [c1]; rfl) (by decide) ?_
    have hb := hb1; unfold bfB at hb; simp only [ek, ex1, ey1] at hb; rw [if_neg (by omega), if_pos (by omega)] at hb; try simp only [Bool.and_eq_true] at hb
    have hx0 := of_decide_eq_true hb; have hx1 := md x hx0.1 hx0.2; have hx2 := ag_ft (ha1 x hx0.1 hx0.2); rw [hA] at hx2
    refine z_aload_n C 97 0 dX7_works_96 rfl rfl ?_
    refine z_aload_n C 98 0 dX7_works_97 rfl rfl ?_
    refine m_geta C hκ 101 19 (by decide) rfl q2014 rfl dX7_works_98 rfl ?_
    refine z_iconst C 102 dX7_works_101 rfl ?_
    refine z_iload_n C 103 1 dX7_works_102 rfl rfl ?_
    refine z_imul C 104 dX7_works_103 rfl ?_
    refine z_iload_n C 105 3 dX7_works_104 rfl rfl ?_
    refine z_iadd C 106 dX7_works_105 rfl ?_
    refine m_iald (len := 300) C hκ hD 107 19 (by decide) rfl rfl (by omega) (by omega) dX7_works_106 rfl ?_
    refine z_aload_n C 108 0 dX7_works_107 rfl rfl ?_
    refine m_geta C hκ 111 47 (by decide) rfl q2042 rfl dX7_works_108 rfl ?_
    refine z_iload_n C 112 2 dX7_works_111 rfl rfl ?_
    refine z_iload_n C 113 3 dX7_works_112 rfl rfl ?_
    refine z_iadd C 114 dX7_works_113 rfl ?_
    refine m_lald (len := 42) C hκ hD 115 47 (by decide) rfl rfl (by omega) (by omega) dX7_works_114 rfl ?_
    refine z_callVF0 (n' := 0) (k' := 0) (As := [.int (iI (w1 19 (((3) * (m)) + (x)))), .long (lI (w1 47 ((A) + (x))))]) (rest := []) C hκ hκl 118 (k7_comesTo hD hw1 (w1 19 (((3) * (m)) + (x))) (w1 47 ((A) + (x))) (hw1.r _ _ rfl) (hw1.l _ _)) dX7_works_115 q2540 q2542 qs85 q97 q2543 znX7_comesTo (Nat.le_of_ble_eq_true rfl) (Nat.le_of_ble_eq_true rfl) (Nat.le_of_ble_eq_true rfl) (Nat.le_of_ble_eq_true rfl) mrec rfl rfl (Nat.le_of_ble_eq_true rfl) rfl rfl rfl ?_
    obtain ⟨w2, ew2⟩ : ∃ wz, (mset (mset w1 49 0 (w1 19 (((3) * (m)) + (x)))) 50 0 (w1 47 ((A) + (x)))) = wz := ⟨_, rfl⟩
    rw [ew2]
    have hw2 : mWF w2 := ew2 ▸ ((hw1.set (hw1.r _ _ rfl) rfl).setL (hw1.l _ _) rfl rfl)
    refine z_goto C 371 dX7_works_118 (by decide) ?_
    refine z_iconst C 372 dX7_works_371 rfl ?_
    exact z_iret C dX7_works_372 rfl (Nat.le_of_ble_eq_true rfl) (Nat.le_of_ble_eq_true rfl) ⟨congrArg (fun z => some (Value.int (iI z))) (by rw [hI]; unfold wkI; rw [if_neg (by omega), if_neg (by omega)]), (congrArg (fun w' => mP θ am ar w' N) (by rw [hW, ← ew2]; unfold wkW; rw [if_pos (by omega), hA]; try rfl; try (rw [eA1]; rfl)))⟩
  · skip
    refine z_tsIn C (k) 121 (off := 73) dX7_works_48 c1r (by omega) (by omega) (by rw [c1]; rfl) (by decide) ?_
    have hb := hb1; unfold bfB at hb; simp only [ek, ex1, ey1] at hb; rw [if_neg (by omega), if_neg (by omega), if_pos (by omega)] at hb; try simp only [Bool.and_eq_true] at hb
    have hx0 := of_decide_eq_true hb.1; have hx3 := (hS1.M hx0.1 hx0.2.1).2.2.1; have h17 := hV1.2.2.2.2 x hx0.1 hx0.2.1 hx0.2.2
    have hsv : hasB w1 x 4 = false → 0 ≤ w1 48 0 ∧ w1 48 0 < w1 27 0 := fun h => hs1 (by have hr := hb.2; unfold reB at hr; rw [h] at hr; simp at hr; exact hr.1)
    have rx : inR x := ⟨by omega, by omega⟩
    refine z_aload_n C 122 0 dX7_works_121 rfl rfl ?_
    refine z_aload_n C 123 0 dX7_works_122 rfl rfl ?_
    refine m_geta C hκ 126 17 (by decide) rfl q2012 rfl dX7_works_123 rfl ?_
    refine z_iload_n C 127 3 dX7_works_126 rfl rfl ?_
    obtain ⟨f2a, f2b, f2c, f2d⟩ := hS1.M (show 0 ≤ x by omega) (by omega)
    refine m_iald (len := 100) C hκ hD 128 17 (by decide) rfl rfl (by omega) (by omega) dX7_works_127 rfl ?_
    refine z_aload_n C 129 0 dX7_works_128 rfl rfl ?_
    refine z_iload_n C 130 3 dX7_works_129 rfl rfl ?_
    refine z_aload_n C 131 0 dX7_works_130 rfl rfl ?_
    refine m_geti C hκ 134 48 (by decide) rfl q2043 rfl dX7_works_131 rfl ?_
    refine z_callVF (n' := 0) (k' := 0) (As := [.int (iI (x)), .int (iI (w1 48 0))]) (rest := [.int (iI (w1 17 (x))), .ref (am)]) C hκ hκl 137 (k7_fieldValue hD hw1 (x) (w1 48 0) rx (r48 0) hS1 ⟨hx0.1, hx0.2.1⟩ hsv) dX7_works_134 q2424 q2426 qs71 q97 q2427 znX7_fieldValue (Nat.le_of_ble_eq_true rfl) (Nat.le_of_ble_eq_true rfl) (Nat.le_of_ble_eq_true rfl) (Nat.le_of_ble_eq_true rfl) mrec rfl rfl (Nat.le_of_ble_eq_true rfl) rfl rfl rfl ?_
    refine z_callVF0 (n' := 0) (k' := 0) (As := [.int (iI (w1 17 (x))), .long (lI (fvL w1 (x) (w1 48 0)))]) (rest := []) C hκ hκl 140 (k7_comesTo hD hw1 (w1 17 (x)) (fvL w1 (x) (w1 48 0)) (hw1.r _ _ rfl) (fvL_L hw1)) dX7_works_137 q2540 q2542 qs85 q97 q2543 znX7_comesTo (Nat.le_of_ble_eq_true rfl) (Nat.le_of_ble_eq_true rfl) (Nat.le_of_ble_eq_true rfl) (Nat.le_of_ble_eq_true rfl) mrec rfl rfl (Nat.le_of_ble_eq_true rfl) rfl rfl rfl ?_
    obtain ⟨w3, ew3⟩ : ∃ wz, (mset (mset w1 49 0 (w1 17 (x))) 50 0 (fvL w1 (x) (w1 48 0))) = wz := ⟨_, rfl⟩
    rw [ew3]
    have hw3 : mWF w3 := ew3 ▸ ((hw1.set (hw1.r _ _ rfl) rfl).setL (fvL_L hw1) rfl rfl)
    refine z_goto C 371 dX7_works_140 (by decide) ?_
    refine z_iconst C 372 dX7_works_371 rfl ?_
    exact z_iret C dX7_works_372 rfl (Nat.le_of_ble_eq_true rfl) (Nat.le_of_ble_eq_true rfl) ⟨congrArg (fun z => some (Value.int (iI z))) (by rw [hI]; unfold wkI; rw [if_neg (by omega), if_neg (by omega)]), (congrArg (fun w' => mP θ am ar w' N) (by rw [hW, ← ew3]; unfold wkW; rw [if_neg (by omega), if_pos (by omega)]; try rfl; try (rw [eA1]; rfl)))⟩
  · skip
    refine z_tsIn C (k) 143 (off := 95) dX7_works_48 c1r (by omega) (by omega) (by rw [c1]; rfl) (by decide) ?_
    have hb := hb1; unfold bfB at hb; simp only [ek, ex1, ey1] at hb; rw [if_neg (by omega), if_neg (by omega), if_neg (by omega), if_pos (by omega)] at hb; try simp only [Bool.and_eq_true] at hb
    have hx0 := of_decide_eq_true hb.1.1.1; have hx3 := (hS1.M hx0.1 hx0.2.1).2.2.1; have h17 := hV1.2.2.2.2 x hx0.1 hx0.2.1 hx0.2.2
    have hy0 := of_decide_eq_true hb.1.1.2; have hy1 := md y hy0.1 hy0.2; have hy2 := ag_ft (ha1 y hy0.1 hy0.2); rw [hA] at hy2
    have hsv : hasB w1 x 4 = false → 0 ≤ w1 48 0 ∧ w1 48 0 < w1 27 0 := fun h => hs1 (by have hr := hb.1.2; unfold reB at hr; rw [h] at hr; simp at hr; exact hr.1)
    have rx : inR x := ⟨by omega, by omega⟩
    refine z_aload_n C 144 0 dX7_works_143 rfl rfl ?_
    refine z_iload_n C 145 3 dX7_works_144 rfl rfl ?_
    refine z_aload_n C 146 0 dX7_works_145 rfl rfl ?_
    refine m_geti C hκ 149 48 (by decide) rfl q2043 rfl dX7_works_146 rfl ?_
    refine z_aload_n C 150 0 dX7_works_149 rfl rfl ?_
    refine m_geta C hκ 153 47 (by decide) rfl q2042 rfl dX7_works_150 rfl ?_
    refine z_iload_n C 154 2 dX7_works_153 rfl rfl ?_
    refine z_iload C 156 4 dX7_works_154 rfl rfl ?_
    refine z_iadd C 157 dX7_works_156 rfl ?_
    refine m_lald (len := 42) C hκ hD 158 47 (by decide) rfl rfl (by omega) (by omega) dX7_works_157 rfl ?_
    refine z_aload_n C 159 0 dX7_works_158 rfl rfl ?_
    refine m_geta C hκ 162 19 (by decide) rfl q2014 rfl dX7_works_159 rfl ?_
    refine z_iconst C 163 dX7_works_162 rfl ?_
    refine z_iload_n C 164 1 dX7_works_163 rfl rfl ?_
    refine z_imul C 165 dX7_works_164 rfl ?_
    refine z_iload C 167 4 dX7_works_165 rfl rfl ?_
    refine z_iadd C 168 dX7_works_167 rfl ?_
    refine m_iald (len := 300) C hκ hD 169 19 (by decide) rfl rfl (by omega) (by omega) dX7_works_168 rfl ?_
    refine z_aload_n C 170 0 dX7_works_169 rfl rfl ?_
    refine m_geta C hκ 173 17 (by decide) rfl q2012 rfl dX7_works_170 rfl ?_
    refine z_iload_n C 174 3 dX7_works_173 rfl rfl ?_
    refine m_iald (len := 100) C hκ hD 175 17 (by decide) rfl rfl (by omega) (by omega) dX7_works_174 rfl ?_
    refine z_callSF (n' := 0) (k' := 0) (As := [.long (lI (w1 47 ((A) + (y)))), .int (iI (w1 19 (((3) * (m)) + (y)))), .int (iI (w1 17 (x)))]) (rest := [.int (iI (w1 48 0)), .int (iI (x)), .ref (am)]) C hκ hκl 178 (k7_widened (w1 47 ((A) + (y))) (w1 19 (((3) * (m)) + (y))) (w1 17 (x)) (hw1.l _ _) (hw1.r _ _ rfl) (hw1.r _ _ rfl) (ft6 hy2)) dX7_works_175 q2428 q2429 q97 q2430 znX7_widened (Nat.le_of_ble_eq_true rfl) (Nat.le_of_ble_eq_true rfl) (Nat.le_of_ble_eq_true rfl) (Nat.le_of_ble_eq_true rfl) rfl (Nat.le_of_ble_eq_true rfl) rfl rfl rfl ?_
    refine z_callVF0 (n' := 0) (k' := 0) (As := [.int (iI (x)), .int (iI (w1 48 0)), .long (lI (wdL (w1 47 ((A) + (y))) (w1 19 (((3) * (m)) + (y))) (w1 17 (x))))]) (rest := []) C hκ hκl 181 (k7_setField hD hw1 (x) (w1 48 0) (wdL (w1 47 ((A) + (y))) (w1 19 (((3) * (m)) + (y))) (w1 17 (x))) rx (r48 0) (wdL_L (hw1.l _ _)) hS1 ⟨hx0.1, hx0.2.1⟩ hsv) dX7_works_178 q2465 q2467 qs73 q97 q2468 znX7_setField (Nat.le_of_ble_eq_true rfl) (Nat.le_of_ble_eq_true rfl) (Nat.le_of_ble_eq_true rfl) (Nat.le_of_ble_eq_true rfl) mrec rfl rfl (Nat.le_of_ble_eq_true rfl) rfl rfl rfl ?_
    obtain ⟨w4, ew4⟩ : ∃ wz, (sfW w1 (x) (w1 48 0) (wdL (w1 47 ((A) + (y))) (w1 19 (((3) * (m)) + (y))) (w1 17 (x)))) = wz := ⟨_, rfl⟩
    rw [ew4]
    have hw4 : mWF w4 := ew4 ▸ (sfW_wf hw1 (wdL_L (hw1.l _ _)))
    refine z_goto C 371 dX7_works_181 (by decide) ?_
    refine z_iconst C 372 dX7_works_371 rfl ?_
    exact z_iret C dX7_works_372 rfl (Nat.le_of_ble_eq_true rfl) (Nat.le_of_ble_eq_true rfl) ⟨congrArg (fun z => some (Value.int (iI z))) (by rw [hI]; unfold wkI; rw [if_neg (by omega), if_neg (by omega)]), (congrArg (fun w' => mP θ am ar w' N) (by rw [hW, ← ew4]; unfold wkW; rw [if_neg (by omega), if_neg (by omega), if_pos (by omega), hA]; try rfl; try (rw [eA1]; rfl)))⟩
  · skip
    refine z_tsIn C (k) 184 (off := 136) dX7_works_48 c1r (by omega) (by omega) (by rw [c1]; rfl) (by decide) ?_
    have hb := hb1; unfold bfB at hb; simp only [ek, ex1, ey1] at hb; rw [if_neg (by omega), if_neg (by omega), if_neg (by omega), if_neg (by omega), if_pos (by omega)] at hb; try simp only [Bool.and_eq_true] at hb
    have hx0 := of_decide_eq_true hb
    refine z_aload_n C 185 0 dX7_works_184 rfl rfl ?_
    refine z_iload_n C 186 3 dX7_works_185 rfl rfl ?_
    refine z_iload_n C 187 1 dX7_works_186 rfl rfl ?_
    refine z_aload_n C 188 0 dX7_works_187 rfl rfl ?_
    refine m_geti C hκ 191 45 (by decide) rfl q2040 rfl dX7_works_188 rfl ?_
    refine z_iconst C 192 dX7_works_191 rfl ?_
    refine z_isub C 193 dX7_works_192 rfl ?_
    refine z_callVF0 (n' := 0) (k' := 0) (As := [.int (iI (x)), .int (iI (m)), .int (iI ((w1 45 0) - (1)))]) (rest := []) C hκ hκl 196 (k7_fails hD hw1 (x) (m) ((w1 45 0) - (1)) (by rw [← ex]; exact hw.r _ _ rfl) ⟨by omega, by omega⟩ ⟨by omega, by omega⟩) dX7_works_193 q2532 q2534 qs83 q97 q2535 znX7_fails (Nat.le_of_ble_eq_true rfl) (Nat.le_of_ble_eq_true rfl) (Nat.le_of_ble_eq_true rfl) (Nat.le_of_ble_eq_true rfl) mrec rfl rfl (Nat.le_of_ble_eq_true rfl) rfl rfl rfl ?_
    obtain ⟨w5, ew5⟩ : ∃ wz, (mset (mset (mset (mset w1 51 0 (x)) 37 0 (x)) 38 0 (m)) 39 0 ((w1 45 0) - (1))) = wz := ⟨_, rfl⟩
    rw [ew5]
    have hw5 : mWF w5 := ew5 ▸ ((((hw1.set (by rw [← ex]; exact hw.r _ _ rfl) rfl).set (by rw [← ex]; exact hw.r _ _ rfl) rfl).set ⟨by omega, by omega⟩ rfl).set ⟨by omega, by omega⟩ rfl)
    refine z_goto C 371 dX7_works_196 (by decide) ?_
    refine z_iconst C 372 dX7_works_371 rfl ?_
    exact z_iret C dX7_works_372 rfl (Nat.le_of_ble_eq_true rfl) (Nat.le_of_ble_eq_true rfl) ⟨congrArg (fun z => some (Value.int (iI z))) (by rw [hI]; unfold wkI; rw [if_neg (by omega), if_neg (by omega)]), (congrArg (fun w' => mP θ am ar w' N) (by rw [hW, ← ew5]; unfold wkW; rw [if_neg (by omega), if_neg (by omega), if_neg (by omega), if_pos (by omega)]; try rfl; try (rw [eA1]; rfl)))⟩
  · skip
    refine z_tsIn C (k) 199 (off := 151) dX7_works_48 c1r (by omega) (by omega) (by rw [c1]; rfl) (by decide) ?_
    have hb := hb1; unfold bfB at hb; simp only [ek, ex1, ey1] at hb; rw [if_neg (by omega), if_neg (by omega), if_neg (by omega), if_neg (by omega), if_neg (by omega), if_pos (by omega)] at hb; try simp only [Bool.and_eq_true] at hb
    unfold mcF mcK at hb; simp only [Bool.and_eq_true] at hb; have hx0 := of_decide_eq_true hb.1.1.1
    have hsv : hasB w1 x 4 = false → 0 ≤ w1 48 0 ∧ w1 48 0 < w1 27 0 := fun h => hs1 (by have hr := hb.1.1.2; unfold reB at hr; rw [h] at hr; simp at hr; exact hr.1)
    refine z_aload_n C 200 0 dX7_works_199 rfl rfl ?_
    refine z_iload_n C 201 3 dX7_works_200 rfl rfl ?_
    refine z_iconst C 202 dX7_works_201 rfl ?_
    refine z_callVF (n' := 0) (k' := 0) (As := [.int (iI (x)), .int (iI (0))]) (rest := []) C hκ hκl 205 (k7_begins hD hw1 (x) (false) (by rw [← ex]; exact hw.r _ _ rfl) hS1 ⟨hx0.1, hx0.2.1⟩ (by omega) (fun h => hsv (by unfold vrB at h; simp at h; exact h.1))) dX7_works_202 q2528 q2530 qs82 q97 q2531 znX7_begins (Nat.le_of_ble_eq_true rfl) (Nat.le_of_ble_eq_true rfl) (Nat.le_of_ble_eq_true rfl) (Nat.le_of_ble_eq_true rfl) mrec rfl rfl (Nat.le_of_ble_eq_true rfl) rfl rfl rfl ?_
    obtain ⟨w6, ew6⟩ : ∃ wz, (beW w1 (x) (false)) = wz := ⟨_, rfl⟩
    rw [ew6]
    have hw6 : mWF w6 := ew6 ▸ (beW_wf hw1 (by rw [← ex]; exact hw.r _ _ rfl) (by omega))
    exact z_iret C dX7_works_205 rfl (Nat.le_of_ble_eq_true rfl) (Nat.le_of_ble_eq_true rfl) ⟨congrArg (fun z => some (Value.int (iI z))) (by rw [hI]; unfold wkI; rw [if_pos (by omega)]), (congrArg (fun w' => mP θ am ar w' N) (by rw [hW, ← ew6]; unfold wkW; rw [if_neg (by omega), if_neg (by omega), if_neg (by omega), if_neg (by omega), if_pos (by omega)]; try rfl; try (rw [eA1]; rfl)))⟩
  · skip
    refine z_tsIn C (k) 206 (off := 158) dX7_works_48 c1r (by omega) (by omega) (by rw [c1]; rfl) (by decide) ?_
    have hb := hb1; unfold bfB at hb; simp only [ek, ex1, ey1] at hb; rw [if_neg (by omega), if_neg (by omega), if_neg (by omega), if_neg (by omega), if_neg (by omega), if_neg (by omega), if_pos (by omega)] at hb; try simp only [Bool.and_eq_true] at hb
    have hx9 := of_decide_eq_true hb.1; have hy9 := of_decide_eq_true hb.2; have hx2 := ag_ft (ha1 x hx9.1.1 hx9.1.2); have hy2 := ag_ft (ha1 y hy9.1.1 hy9.1.2); rw [hA] at hx2 hy2
    refine z_aload_n C 207 0 dX7_works_206 rfl rfl ?_
    refine z_iload_n C 208 1 dX7_works_207 rfl rfl ?_
    refine z_aload_n C 209 0 dX7_works_208 rfl rfl ?_
    refine m_geta C hκ 212 47 (by decide) rfl q2042 rfl dX7_works_209 rfl ?_
    refine z_iload_n C 213 2 dX7_works_212 rfl rfl ?_
    refine z_iload_n C 214 3 dX7_works_213 rfl rfl ?_
    refine z_iadd C 215 dX7_works_214 rfl ?_
    refine m_lald (len := 42) C hκ hD 216 47 (by decide) rfl rfl (by omega) (by omega) dX7_works_215 rfl ?_
    refine z_aload_n C 217 0 dX7_works_216 rfl rfl ?_
    refine m_geta C hκ 220 47 (by decide) rfl q2042 rfl dX7_works_217 rfl ?_
    refine z_iload_n C 221 2 dX7_works_220 rfl rfl ?_
    refine z_iload C 223 4 dX7_works_221 rfl rfl ?_
    refine z_iadd C 224 dX7_works_223 rfl ?_
    refine m_lald (len := 42) C hκ hD 225 47 (by decide) rfl rfl (by omega) (by omega) dX7_works_224 rfl ?_
    refine z_aload_n C 226 0 dX7_works_225 rfl rfl ?_
    refine m_geta C hκ 229 19 (by decide) rfl q2014 rfl dX7_works_226 rfl ?_
    refine z_iconst C 230 dX7_works_229 rfl ?_
    refine z_iload_n C 231 1 dX7_works_230 rfl rfl ?_
    refine z_imul C 232 dX7_works_231 rfl ?_
    refine z_iload_n C 233 3 dX7_works_232 rfl rfl ?_
    refine z_iadd C 234 dX7_works_233 rfl ?_
    refine m_iald (len := 300) C hκ hD 235 19 (by decide) rfl rfl (by omega) (by omega) dX7_works_234 rfl ?_
    refine z_aload_n C 236 0 dX7_works_235 rfl rfl ?_
    refine m_geta C hκ 239 19 (by decide) rfl q2014 rfl dX7_works_236 rfl ?_
    refine z_iconst C 240 dX7_works_239 rfl ?_
    refine z_iload_n C 241 1 dX7_works_240 rfl rfl ?_
    refine z_imul C 242 dX7_works_241 rfl ?_
    refine z_iload C 244 4 dX7_works_242 rfl rfl ?_
    refine z_iadd C 245 dX7_works_244 rfl ?_
    refine m_iald (len := 300) C hκ hD 246 19 (by decide) rfl rfl (by omega) (by omega) dX7_works_245 rfl ?_
    refine z_callVF0 (n' := 0) (k' := 0) (As := [.int (iI (m)), .long (lI (w1 47 ((A) + (x)))), .long (lI (w1 47 ((A) + (y)))), .int (iI (w1 19 (((3) * (m)) + (x)))), .int (iI (w1 19 (((3) * (m)) + (y))))]) (rest := []) C hκ hκl 249 (k7_adds hD hw1 (m) (w1 47 ((A) + (x))) (w1 47 ((A) + (y))) (w1 19 (((3) * (m)) + (x))) (w1 19 (((3) * (m)) + (y))) ⟨by omega, by omega⟩ (hw1.l _ _) (hw1.l _ _) (hw1.r _ _ rfl) (hw1.r _ _ rfl) hx9.2 hy9.2 (ft_nu hx2) (ft_nu hy2) (by omega)) dX7_works_246 q2544 q2546 qs86 q97 q2547 znX7_adds (Nat.le_of_ble_eq_true rfl) (Nat.le_of_ble_eq_true rfl) (Nat.le_of_ble_eq_true rfl) (Nat.le_of_ble_eq_true rfl) mrec rfl rfl (Nat.le_of_ble_eq_true rfl) rfl rfl rfl ?_
    obtain ⟨w7, ew7⟩ : ∃ wz, (adW w1 (m) (w1 47 ((A) + (x))) (w1 47 ((A) + (y))) (w1 19 (((3) * (m)) + (x))) (w1 19 (((3) * (m)) + (y)))) = wz := ⟨_, rfl⟩
    rw [ew7]
    have hw7 : mWF w7 := ew7 ▸ (adW_wf hw1 ⟨by omega, by omega⟩ (by omega) hx9.2 hy9.2)
    refine z_goto C 371 dX7_works_249 (by decide) ?_
    refine z_iconst C 372 dX7_works_371 rfl ?_
    exact z_iret C dX7_works_372 rfl (Nat.le_of_ble_eq_true rfl) (Nat.le_of_ble_eq_true rfl) ⟨congrArg (fun z => some (Value.int (iI z))) (by rw [hI]; unfold wkI; rw [if_neg (by omega), if_neg (by omega)]), (congrArg (fun w' => mP θ am ar w' N) (by rw [hW, ← ew7]; unfold wkW; rw [if_neg (by omega), if_neg (by omega), if_neg (by omega), if_neg (by omega), if_neg (by omega), if_pos (by omega), hA, hA]; try rfl; try (rw [eA1]; rfl)))⟩
  · skip
    refine z_tsIn C (k) 252 (off := 204) dX7_works_48 c1r (by omega) (by omega) (by rw [c1]; rfl) (by decide) ?_
    have hb := hb1; unfold bfB at hb; simp only [ek, ex1, ey1] at hb; rw [if_neg (by omega), if_neg (by omega), if_neg (by omega), if_neg (by omega), if_neg (by omega), if_neg (by omega), if_neg (by omega), if_pos (by omega)] at hb; try simp only [Bool.and_eq_true] at hb
    unfold abB at hb; simp only [Bool.and_eq_true] at hb; have hn0 := of_decide_eq_true hb.2.1.1.1.1.1
    refine z_aload_n C 253 0 dX7_works_252 rfl rfl ?_
    refine z_aload_n C 254 0 dX7_works_253 rfl rfl ?_
    refine m_geta C hκ 257 25 (by decide) rfl q2020 rfl dX7_works_254 rfl ?_
    refine z_iload_n C 258 1 dX7_works_257 rfl rfl ?_
    refine m_iald (len := 100) C hκ hD 259 25 (by decide) rfl rfl (by omega) (by omega) dX7_works_258 rfl ?_
    refine z_iconst C 260 dX7_works_259 rfl ?_
    refine z_callVF (n' := 0) (k' := 0) (As := [.int (iI (w1 25 (m))), .int (iI (1))]) (rest := []) C hκ hκl 263 (k7_begins hD hw1 (w1 25 (m)) (true) (hw1.r _ _ rfl) hS1 ⟨hn0.1, hn0.2.1⟩ (by omega) (fun h => by unfold vrB at h; simp at h)) dX7_works_260 q2528 q2530 qs82 q97 q2531 znX7_begins (Nat.le_of_ble_eq_true rfl) (Nat.le_of_ble_eq_true rfl) (Nat.le_of_ble_eq_true rfl) (Nat.le_of_ble_eq_true rfl) mrec rfl rfl (Nat.le_of_ble_eq_true rfl) rfl rfl rfl ?_
    obtain ⟨w8, ew8⟩ : ∃ wz, (beW w1 (w1 25 (m)) (true)) = wz := ⟨_, rfl⟩
    rw [ew8]
    have hw8 : mWF w8 := ew8 ▸ (beW_wf hw1 (hw1.r _ _ rfl) (by omega))
    exact z_iret C dX7_works_263 rfl (Nat.le_of_ble_eq_true rfl) (Nat.le_of_ble_eq_true rfl) ⟨congrArg (fun z => some (Value.int (iI z))) (by rw [hI]; unfold wkI; rw [if_neg (by omega), if_pos (by omega)]), (congrArg (fun w' => mP θ am ar w' N) (by rw [hW, ← ew8]; unfold wkW; rw [if_neg (by omega), if_neg (by omega), if_neg (by omega), if_neg (by omega), if_neg (by omega), if_neg (by omega), if_pos (by omega)]; try rfl; try (rw [eA1]; rfl)))⟩
  · skip
    refine z_tsIn C (k) 264 (off := 216) dX7_works_48 c1r (by omega) (by omega) (by rw [c1]; rfl) (by decide) ?_
    have hb := hb1; unfold bfB at hb; simp only [ek, ex1, ey1] at hb; rw [if_neg (by omega), if_neg (by omega), if_neg (by omega), if_neg (by omega), if_neg (by omega), if_neg (by omega), if_neg (by omega), if_neg (by omega)] at hb; simp only [Bool.and_eq_true] at hb
    have hx0 := of_decide_eq_true hb.1.1.1.1.2; have hx1 := md x hx0.1 hx0.2; have hx2 := ag_ft (ha1 x hx0.1 hx0.2); rw [hA] at hx2
    have hy0 := of_decide_eq_true hb.1.1.1.2; have hy1 := md y hy0.1 hy0.2; have hy2 := ag_ft (ha1 y hy0.1 hy0.2); rw [hA] at hy2
    have hs4 := of_decide_eq_true hb.1.1.2; have hT := (hS1.T hx1.1 hx1.2).2.2.2.1; have hp8 : 8 ≤ w1 19 (3 * m + x) := Decidable.byContradiction (fun h => absurd hs4 (by have := hR8 (w1 19 (3 * m + x)) hx1.1 (by omega); omega)); have hx8 := ft8 hx2 hp8; have hyr := ft_R hy2 hy1.1 (by have h7 := of_decide_eq_true hb.1.2; have h8 := of_decide_eq_true hb.2; omega); obtain ⟨hyr1, hyr2⟩ := hyr
    refine z_aload_n C 265 0 dX7_works_264 rfl rfl ?_
    refine m_geta C hκ 268 47 (by decide) rfl q2042 rfl dX7_works_265 rfl ?_
    refine z_iload_n C 269 2 dX7_works_268 rfl rfl ?_
    refine z_iload_n C 270 3 dX7_works_269 rfl rfl ?_
    refine z_iadd C 271 dX7_works_270 rfl ?_
    refine m_lald (len := 42) C hκ hD 272 47 (by decide) rfl rfl (by omega) (by omega) dX7_works_271 rfl ?_
    refine z_l2i C 273 dX7_works_272 rfl ?_
    refine z_istore (lv' := [(0, .ref (am)), (1, .int (iI (m))), (2, .int (iI (A))), (3, .int (iI (x))), (4, .int (iI (y))), (5, .int (iI (w1 47 ((A) + (x)))))]) C 275 [1, 2, 3, 4, 5, 0] dX7_works_273 (by decide) rfl rfl ?_
    refine z_aload_n C 276 0 dX7_works_275 rfl rfl ?_
    refine m_geta C hκ 279 47 (by decide) rfl q2042 rfl dX7_works_276 rfl ?_
    refine z_iload_n C 280 2 dX7_works_279 rfl rfl ?_
    refine z_iload C 282 4 dX7_works_280 rfl rfl ?_
    refine z_iadd C 283 dX7_works_282 rfl ?_
    refine m_lald (len := 42) C hκ hD 284 47 (by decide) rfl rfl (by omega) (by omega) dX7_works_283 rfl ?_
    refine z_l2i C 285 dX7_works_284 rfl ?_
    refine z_istore (lv' := [(0, .ref (am)), (1, .int (iI (m))), (2, .int (iI (A))), (3, .int (iI (x))), (4, .int (iI (y))), (5, .int (iI (w1 47 ((A) + (x))))), (6, .int (iI (w1 47 ((A) + (y)))))]) C 287 [1, 2, 3, 4, 5, 6, 0] dX7_works_285 (by decide) rfl rfl ?_
    refine z_iload C 289 5 dX7_works_287 rfl rfl ?_
    refine z_if_lt C 312 292 dX7_works_289 (by decide) ⟨by omega, by omega⟩ rfl (fun c3 => ?_) (fun c3 => ?_)
    · skip
      refine z_aload_n C 313 0 dX7_works_312 rfl rfl ?_
      refine z_iload C 315 5 dX7_works_313 rfl rfl ?_
      refine z_if_ge C 322 318 dX7_works_315 (by decide) ⟨by omega, by omega⟩ rfl (fun c4 => ?_) (fun c4 => ?_)
      · skip
        have hB8 : w8B w1 x y = false := by unfold w8B; rw [hA, hA]; rw [show decide (0 ≤ w1 47 (A + y) ∧ w1 47 (A + y) < w1 29 (w1 47 (A + x))) = false from by simp; omega]; simp
        refine z_iconst C 323 dX7_works_322 rfl ?_
        refine z_iload_n C 324 1 dX7_works_323 rfl rfl ?_
        refine z_aload_n C 325 0 dX7_works_324 rfl rfl ?_
        refine m_geti C hκ 328 45 (by decide) rfl q2040 rfl dX7_works_325 rfl ?_
        refine z_iconst C 329 dX7_works_328 rfl ?_
        refine z_isub C 330 dX7_works_329 rfl ?_
        refine z_callVF0 (n' := 0) (k' := 0) (As := [.int (iI (3)), .int (iI (m)), .int (iI ((w1 45 0) - (1)))]) (rest := []) C hκ hκl 333 (k7_fails hD hw1 (3) (m) ((w1 45 0) - (1)) ⟨by decide, by decide⟩ ⟨by omega, by omega⟩ ⟨by omega, by omega⟩) dX7_works_330 q2532 q2534 qs83 q97 q2535 znX7_fails (Nat.le_of_ble_eq_true rfl) (Nat.le_of_ble_eq_true rfl) (Nat.le_of_ble_eq_true rfl) (Nat.le_of_ble_eq_true rfl) mrec rfl rfl (Nat.le_of_ble_eq_true rfl) rfl rfl rfl ?_
        obtain ⟨w9, ew9⟩ : ∃ wz, (mset (mset (mset (mset w1 51 0 (3)) 37 0 (3)) 38 0 (m)) 39 0 ((w1 45 0) - (1))) = wz := ⟨_, rfl⟩
        rw [ew9]
        have hw9 : mWF w9 := ew9 ▸ ((((hw1.set ⟨by decide, by decide⟩ rfl).set ⟨by decide, by decide⟩ rfl).set ⟨by omega, by omega⟩ rfl).set ⟨by omega, by omega⟩ rfl)
        refine z_goto C 371 dX7_works_333 (by decide) ?_
        refine z_iconst C 372 dX7_works_371 rfl ?_
        exact z_iret C dX7_works_372 rfl (Nat.le_of_ble_eq_true rfl) (Nat.le_of_ble_eq_true rfl) ⟨congrArg (fun z => some (Value.int (iI z))) (by rw [hI]; unfold wkI; rw [if_neg (by omega), if_neg (by omega)]), (congrArg (fun w' => mP θ am ar w' N) (by rw [hW, ← ew9]; unfold wkW; rw [if_neg (by omega), if_neg (by omega), if_neg (by omega), if_neg (by omega), if_neg (by omega), if_neg (by omega), if_neg (by omega), if_pos (by omega), if_neg (by rw [hB8]; decide), hA, if_neg (by omega)]; rfl))⟩
      · skip
        have hB8 : w8B w1 x y = false := by unfold w8B; rw [hA, hA]; rw [show decide (0 ≤ w1 47 (A + x)) = false from by simp; omega]; rfl
        refine z_iconst C 319 dX7_works_318 rfl ?_
        refine z_goto C 323 dX7_works_319 (by decide) ?_
        refine z_iload_n C 324 1 dX7_works_323 rfl rfl ?_
        refine z_aload_n C 325 0 dX7_works_324 rfl rfl ?_
        refine m_geti C hκ 328 45 (by decide) rfl q2040 rfl dX7_works_325 rfl ?_
        refine z_iconst C 329 dX7_works_328 rfl ?_
        refine z_isub C 330 dX7_works_329 rfl ?_
        refine z_callVF0 (n' := 0) (k' := 0) (As := [.int (iI (1)), .int (iI (m)), .int (iI ((w1 45 0) - (1)))]) (rest := []) C hκ hκl 333 (k7_fails hD hw1 (1) (m) ((w1 45 0) - (1)) ⟨by decide, by decide⟩ ⟨by omega, by omega⟩ ⟨by omega, by omega⟩) dX7_works_330 q2532 q2534 qs83 q97 q2535 znX7_fails (Nat.le_of_ble_eq_true rfl) (Nat.le_of_ble_eq_true rfl) (Nat.le_of_ble_eq_true rfl) (Nat.le_of_ble_eq_true rfl) mrec rfl rfl (Nat.le_of_ble_eq_true rfl) rfl rfl rfl ?_
        obtain ⟨w10, ew10⟩ : ∃ wz, (mset (mset (mset (mset w1 51 0 (1)) 37 0 (1)) 38 0 (m)) 39 0 ((w1 45 0) - (1))) = wz := ⟨_, rfl⟩
        rw [ew10]
        have hw10 : mWF w10 := ew10 ▸ ((((hw1.set ⟨by decide, by decide⟩ rfl).set ⟨by decide, by decide⟩ rfl).set ⟨by omega, by omega⟩ rfl).set ⟨by omega, by omega⟩ rfl)
        refine z_goto C 371 dX7_works_333 (by decide) ?_
        refine z_iconst C 372 dX7_works_371 rfl ?_
        exact z_iret C dX7_works_372 rfl (Nat.le_of_ble_eq_true rfl) (Nat.le_of_ble_eq_true rfl) ⟨congrArg (fun z => some (Value.int (iI z))) (by rw [hI]; unfold wkI; rw [if_neg (by omega), if_neg (by omega)]), (congrArg (fun w' => mP θ am ar w' N) (by rw [hW, ← ew10]; unfold wkW; rw [if_neg (by omega), if_neg (by omega), if_neg (by omega), if_neg (by omega), if_neg (by omega), if_neg (by omega), if_neg (by omega), if_pos (by omega), if_neg (by rw [hB8]; decide), hA, if_pos (by omega)]; rfl))⟩
    · skip
      refine z_iload C 294 6 dX7_works_292 rfl rfl ?_
      refine z_i2l C 295 dX7_works_294 ⟨by omega, by omega⟩ rfl ?_
      refine z_lconst (x := 0) C 296 dX7_works_295 rfl rfl ?_
      refine z_aload_n C 297 0 dX7_works_296 rfl rfl ?_
      refine m_geta C hκ 300 29 (by decide) rfl q2024 rfl dX7_works_297 rfl ?_
      refine z_iload C 302 5 dX7_works_300 rfl rfl ?_
      obtain ⟨f5a, f5b, f5c⟩ := hS1.X (show 0 ≤ w1 47 ((A) + (x)) by omega) (by omega)
      refine m_iald (len := 80) C hκ hD 303 29 (by decide) rfl rfl (by omega) (by omega) dX7_works_302 rfl ?_
      refine z_iconst C 304 dX7_works_303 rfl ?_
      refine z_isub C 305 dX7_works_304 rfl ?_
      refine z_i2l C 306 dX7_works_305 ⟨by omega, by omega⟩ rfl ?_
      refine z_callSF (n' := 0) (k' := 0) (As := [.long (lI (w1 47 ((A) + (y)))), .long (lI (0)), .long (lI ((w1 29 (w1 47 ((A) + (x)))) - (1)))]) (rest := []) C hκ hκl 309 (k7_in (w1 47 ((A) + (y))) (0) ((w1 29 (w1 47 ((A) + (x)))) - (1)) (hw1.l _ _) ⟨by decide, by decide⟩ ⟨by omega, by omega⟩) dX7_works_306 q2164 q2165 q97 q2166 znX7_in (Nat.le_of_ble_eq_true rfl) (Nat.le_of_ble_eq_true rfl) (Nat.le_of_ble_eq_true rfl) (Nat.le_of_ble_eq_true rfl) rfl (Nat.le_of_ble_eq_true rfl) rfl rfl rfl ?_
      refine z_ifB_ne C 336 312 dX7_works_309 (by decide) rfl (fun c6 => ?_) (fun c6 => ?_)
      · skip
        have c6b : (((0) ≤ (w1 47 ((A) + (y))) ∧ (w1 47 ((A) + (y))) ≤ ((w1 29 (w1 47 ((A) + (x)))) - (1)))) := of_decide_eq_true c6
        have hB8 : w8B w1 x y = true := by unfold w8B; rw [hA, hA]; simp; omega
        have hX8 := hS1.X (show 0 ≤ w1 47 (A + x) by omega) (by omega)
        have hT8 := hS1.T hx1.1 hx1.2
        refine z_aload_n C 337 0 dX7_works_336 rfl rfl ?_
        refine z_aload_n C 338 0 dX7_works_337 rfl rfl ?_
        refine m_geta C hκ 341 4 (by decide) rfl q1999 rfl dX7_works_338 rfl ?_
        refine z_aload_n C 342 0 dX7_works_341 rfl rfl ?_
        refine m_geta C hκ 345 19 (by decide) rfl q2014 rfl dX7_works_342 rfl ?_
        refine z_iconst C 346 dX7_works_345 rfl ?_
        refine z_iload_n C 347 1 dX7_works_346 rfl rfl ?_
        refine z_imul C 348 dX7_works_347 rfl ?_
        refine z_iload_n C 349 3 dX7_works_348 rfl rfl ?_
        refine z_iadd C 350 dX7_works_349 rfl ?_
        refine m_iald (len := 300) C hκ hD 351 19 (by decide) rfl rfl (by omega) (by omega) dX7_works_350 rfl ?_
        refine m_iald (len := 60) C hκ hD 352 4 (by decide) rfl rfl (by omega) (by omega) dX7_works_351 rfl ?_
        refine z_aload_n C 353 0 dX7_works_352 rfl rfl ?_
        refine m_geta C hκ 356 31 (by decide) rfl q2026 rfl dX7_works_353 rfl ?_
        refine z_bipush C 358 dX7_works_356 (by decide) rfl ?_
        refine z_iload C 360 5 dX7_works_358 rfl rfl ?_
        refine z_imul C 361 dX7_works_360 rfl ?_
        refine z_iload C 363 6 dX7_works_361 rfl rfl ?_
        refine z_iadd C 364 dX7_works_363 rfl ?_
        refine m_lald (len := 1600) C hκ hD 365 31 (by decide) rfl rfl (by omega) (by omega) dX7_works_364 rfl ?_
        refine z_callVF0 (n' := 0) (k' := 0) (As := [.int (iI (w1 4 (w1 19 (((3) * (m)) + (x))))), .long (lI (w1 31 (((20) * (w1 47 ((A) + (x)))) + (w1 47 ((A) + (y))))))]) (rest := []) C hκ hκl 368 (k7_comesTo hD hw1 (w1 4 (w1 19 (((3) * (m)) + (x)))) (w1 31 (((20) * (w1 47 ((A) + (x)))) + (w1 47 ((A) + (y))))) (hw1.r _ _ rfl) (hw1.l _ _)) dX7_works_365 q2540 q2542 qs85 q97 q2543 znX7_comesTo (Nat.le_of_ble_eq_true rfl) (Nat.le_of_ble_eq_true rfl) (Nat.le_of_ble_eq_true rfl) (Nat.le_of_ble_eq_true rfl) mrec rfl rfl (Nat.le_of_ble_eq_true rfl) rfl rfl rfl ?_
        obtain ⟨w11, ew11⟩ : ∃ wz, (mset (mset w1 49 0 (w1 4 (w1 19 (((3) * (m)) + (x))))) 50 0 (w1 31 (((20) * (w1 47 ((A) + (x)))) + (w1 47 ((A) + (y)))))) = wz := ⟨_, rfl⟩
        rw [ew11]
        have hw11 : mWF w11 := ew11 ▸ ((hw1.set (hw1.r _ _ rfl) rfl).setL (hw1.l _ _) rfl rfl)
        refine z_goto C 371 dX7_works_368 (by decide) ?_
        refine z_iconst C 372 dX7_works_371 rfl ?_
        exact z_iret C dX7_works_372 rfl (Nat.le_of_ble_eq_true rfl) (Nat.le_of_ble_eq_true rfl) ⟨congrArg (fun z => some (Value.int (iI z))) (by rw [hI]; unfold wkI; rw [if_neg (by omega), if_neg (by omega)]), (congrArg (fun w' => mP θ am ar w' N) (by rw [hW, ← ew11]; unfold wkW; rw [if_neg (by omega), if_neg (by omega), if_neg (by omega), if_neg (by omega), if_neg (by omega), if_neg (by omega), if_neg (by omega), if_pos (by omega), if_pos hB8, hA, hA]; rfl))⟩
      · skip
        have c6b : ¬ (((0) ≤ (w1 47 ((A) + (y))) ∧ (w1 47 ((A) + (y))) ≤ ((w1 29 (w1 47 ((A) + (x)))) - (1)))) := of_decide_eq_false c6
        refine z_aload_n C 313 0 dX7_works_312 rfl rfl ?_
        refine z_iload C 315 5 dX7_works_313 rfl rfl ?_
        refine z_if_ge C 322 318 dX7_works_315 (by decide) ⟨by omega, by omega⟩ rfl (fun c7 => ?_) (fun c7 => ?_)
        · skip
          have hB8 : w8B w1 x y = false := by unfold w8B; rw [hA, hA]; rw [show decide (0 ≤ w1 47 (A + y) ∧ w1 47 (A + y) < w1 29 (w1 47 (A + x))) = false from by simp; omega]; simp
          refine z_iconst C 323 dX7_works_322 rfl ?_
          refine z_iload_n C 324 1 dX7_works_323 rfl rfl ?_
          refine z_aload_n C 325 0 dX7_works_324 rfl rfl ?_
          refine m_geti C hκ 328 45 (by decide) rfl q2040 rfl dX7_works_325 rfl ?_
          refine z_iconst C 329 dX7_works_328 rfl ?_
          refine z_isub C 330 dX7_works_329 rfl ?_
          refine z_callVF0 (n' := 0) (k' := 0) (As := [.int (iI (3)), .int (iI (m)), .int (iI ((w1 45 0) - (1)))]) (rest := []) C hκ hκl 333 (k7_fails hD hw1 (3) (m) ((w1 45 0) - (1)) ⟨by decide, by decide⟩ ⟨by omega, by omega⟩ ⟨by omega, by omega⟩) dX7_works_330 q2532 q2534 qs83 q97 q2535 znX7_fails (Nat.le_of_ble_eq_true rfl) (Nat.le_of_ble_eq_true rfl) (Nat.le_of_ble_eq_true rfl) (Nat.le_of_ble_eq_true rfl) mrec rfl rfl (Nat.le_of_ble_eq_true rfl) rfl rfl rfl ?_
          obtain ⟨w12, ew12⟩ : ∃ wz, (mset (mset (mset (mset w1 51 0 (3)) 37 0 (3)) 38 0 (m)) 39 0 ((w1 45 0) - (1))) = wz := ⟨_, rfl⟩
          rw [ew12]
          have hw12 : mWF w12 := ew12 ▸ ((((hw1.set ⟨by decide, by decide⟩ rfl).set ⟨by decide, by decide⟩ rfl).set ⟨by omega, by omega⟩ rfl).set ⟨by omega, by omega⟩ rfl)
          refine z_goto C 371 dX7_works_333 (by decide) ?_
          refine z_iconst C 372 dX7_works_371 rfl ?_
          exact z_iret C dX7_works_372 rfl (Nat.le_of_ble_eq_true rfl) (Nat.le_of_ble_eq_true rfl) ⟨congrArg (fun z => some (Value.int (iI z))) (by rw [hI]; unfold wkI; rw [if_neg (by omega), if_neg (by omega)]), (congrArg (fun w' => mP θ am ar w' N) (by rw [hW, ← ew12]; unfold wkW; rw [if_neg (by omega), if_neg (by omega), if_neg (by omega), if_neg (by omega), if_neg (by omega), if_neg (by omega), if_neg (by omega), if_pos (by omega), if_neg (by rw [hB8]; decide), hA, if_neg (by omega)]; rfl))⟩
        · skip
          have hB8 : w8B w1 x y = false := by unfold w8B; rw [hA, hA]; rw [show decide (0 ≤ w1 47 (A + x)) = false from by simp; omega]; rfl
          refine z_iconst C 319 dX7_works_318 rfl ?_
          refine z_goto C 323 dX7_works_319 (by decide) ?_
          refine z_iload_n C 324 1 dX7_works_323 rfl rfl ?_
          refine z_aload_n C 325 0 dX7_works_324 rfl rfl ?_
          refine m_geti C hκ 328 45 (by decide) rfl q2040 rfl dX7_works_325 rfl ?_
          refine z_iconst C 329 dX7_works_328 rfl ?_
          refine z_isub C 330 dX7_works_329 rfl ?_
          refine z_callVF0 (n' := 0) (k' := 0) (As := [.int (iI (1)), .int (iI (m)), .int (iI ((w1 45 0) - (1)))]) (rest := []) C hκ hκl 333 (k7_fails hD hw1 (1) (m) ((w1 45 0) - (1)) ⟨by decide, by decide⟩ ⟨by omega, by omega⟩ ⟨by omega, by omega⟩) dX7_works_330 q2532 q2534 qs83 q97 q2535 znX7_fails (Nat.le_of_ble_eq_true rfl) (Nat.le_of_ble_eq_true rfl) (Nat.le_of_ble_eq_true rfl) (Nat.le_of_ble_eq_true rfl) mrec rfl rfl (Nat.le_of_ble_eq_true rfl) rfl rfl rfl ?_
          obtain ⟨w13, ew13⟩ : ∃ wz, (mset (mset (mset (mset w1 51 0 (1)) 37 0 (1)) 38 0 (m)) 39 0 ((w1 45 0) - (1))) = wz := ⟨_, rfl⟩
          rw [ew13]
          have hw13 : mWF w13 := ew13 ▸ ((((hw1.set ⟨by decide, by decide⟩ rfl).set ⟨by decide, by decide⟩ rfl).set ⟨by omega, by omega⟩ rfl).set ⟨by omega, by omega⟩ rfl)
          refine z_goto C 371 dX7_works_333 (by decide) ?_
          refine z_iconst C 372 dX7_works_371 rfl ?_
          exact z_iret C dX7_works_372 rfl (Nat.le_of_ble_eq_true rfl) (Nat.le_of_ble_eq_true rfl) ⟨congrArg (fun z => some (Value.int (iI z))) (by rw [hI]; unfold wkI; rw [if_neg (by omega), if_neg (by omega)]), (congrArg (fun w' => mP θ am ar w' N) (by rw [hW, ← ew13]; unfold wkW; rw [if_neg (by omega), if_neg (by omega), if_neg (by omega), if_neg (by omega), if_neg (by omega), if_neg (by omega), if_neg (by omega), if_pos (by omega), if_neg (by rw [hB8]; decide), hA, if_pos (by omega)]; rfl))⟩
  · skip
    refine z_tsOut C 371 dX7_works_48 c1r c1 (by decide) ?_
    refine z_iconst C 372 dX7_works_371 rfl ?_
    exact z_iret C dX7_works_372 rfl (Nat.le_of_ble_eq_true rfl) (Nat.le_of_ble_eq_true rfl) ⟨congrArg (fun z => some (Value.int (iI z))) (by rw [hI]; unfold wkI; rw [if_neg (by omega), if_neg (by omega)]), (congrArg (fun w' => mP θ am ar w' N) (by rw [hW]; unfold wkW; rw [if_neg (by omega), if_neg (by omega), if_neg (by omega), if_neg (by omega), if_neg (by omega), if_neg (by omega), if_neg (by omega), if_neg (by omega)]))⟩
