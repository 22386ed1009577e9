/-! ===== the Model: what is found ===== -/
def clW (w : mW) : Nat → mW
  | 0 => w
  | n + 1 => mset (clW w n) 42 n 0
def bgW (w : mW) (t : Int) : mW := mset (mset (clW w 60) 40 0 t) 41 0 1
def psW (w : mW) (v : Int) : mW := mset (mset w 40 (w 41 0) v) 41 0 (w 41 0 + 1)
def phW (w : mW) (t : Int) : Nat → mW
  | 0 => w
  | k + 1 => phW (psW w (w 7 (3 * t + k))) t k
def lh1 (w : mW) (t : Int) (f : Bool) : mW := if decide (w 2 t ≠ -1) && !f then psW w (w 2 t) else w
def lhW (w : mW) (t : Int) (f : Bool) : mW := if decide (w 2 t ≠ -1) && f then psW (phW (lh1 w t f) t (w 6 t).toNat) (w 2 t) else phW (lh1 w t f) t (w 6 t).toNat
/-- the same but for what is ahead, and what was seen -/
def sQ (w w' : mW) : Prop := ∀ (k : Nat) (i : Int), k ≠ 40 → k ≠ 41 → k ≠ 42 → w' k i = w k i
theorem sQ.refl {w : mW} : sQ w w := fun _ _ _ _ _ => rfl
theorem sQ.trans {w w' w'' : mW} (h : sQ w w') (h' : sQ w' w'') : sQ w w'' := fun k i a b c => (h' k i a b c).trans (h k i a b c)
theorem sQ.set {w w' : mW} (h : sQ w w') {k : Nat} {i v : Int} (hk : k = 40 ∨ k = 41 ∨ k = 42) : sQ w (mset w' k i v) := fun k' i' a b c => by rw [mset_k (by omega)]; exact h k' i' a b c
theorem clW_q {w w' : mW} (h : sQ w w') : ∀ n : Nat, sQ w (clW w' n)
  | 0 => h
  | n + 1 => (clW_q h n).set (by omega)
theorem psW_q {w w' : mW} {v : Int} (h : sQ w w') : sQ w (psW w' v) := (h.set (by omega)).set (by omega)
theorem phW_q {w : mW} {t : Int} : ∀ (k : Nat) {w' : mW}, sQ w w' → sQ w (phW w' t k)
  | 0, _, h => h
  | k + 1, _, h => phW_q k (psW_q h)
theorem bgW_q {w w' : mW} {t : Int} (h : sQ w w') : sQ w (bgW w' t) := ((clW_q h 60).set (by omega)).set (by omega)
theorem lhW_q {w w' : mW} {t : Int} {f : Bool} (h : sQ w w') : sQ w (lhW w' t f) := by
  have h1 : sQ w (lh1 w' t f) := by unfold lh1; split; exact psW_q h; exact h
  unfold lhW; split
  · exact psW_q (phW_q _ h1)
  · exact phW_q _ h1
theorem clW_wf {w : mW} (hw : mWF w) : ∀ n : Nat, mWF (clW w n)
  | 0 => hw
  | n + 1 => (clW_wf hw n).setB (Or.inl rfl)
theorem bgW_wf {w : mW} {t : Int} (hw : mWF w) (ht : inR t) : mWF (bgW w t) := ((clW_wf hw 60).set ht rfl).set ⟨by decide, by decide⟩ rfl
theorem psW_wf {w : mW} {v : Int} (hw : mWF w) (hv : inR v) (h : -1 ≤ w 41 0 ∧ w 41 0 < 248) : mWF (psW w v) := (hw.set hv rfl).set ⟨by omega, by omega⟩ rfl
theorem psW_41 {w : mW} {v : Int} : psW w v 41 0 = w 41 0 + 1 := by unfold psW; rw [mset_s]
theorem clW_42 {w : mW} : ∀ {n k : Nat}, k < n → clW w n 42 k = 0
  | 0, _, h => absurd h (Nat.not_lt_zero _)
  | n + 1, k, h => by
    simp only [clW]
    by_cases e : k = n
    · subst e; rw [mset_s]
    · rw [mset_i (by omega)]; exact clW_42 (by omega)
/-- what is ahead, the next one first -/
def stk (w : mW) (S : List Int) : Prop := w 41 0 = S.length ∧ ∀ (k : Nat) (a : Int), S[k]? = some a → w 40 (S.length - 1 - k) = a
theorem stk_push {w : mW} {S : List Int} {v : Int} (h : stk w S) : stk (psW w v) (v :: S) := by
  obtain ⟨h1, h2⟩ := h
  refine ⟨by rw [psW_41, h1]; simp, ?_⟩
  intro k a hk
  unfold psW
  rw [mset_k (by decide)]
  cases k with
  | zero =>
    simp at hk
    subst hk
    rw [h1, show (((v :: S).length : Nat) : Int) - 1 - ((0 : Nat) : Int) = S.length by simp, mset_s]
  | succ k =>
    simp only [List.getElem?_cons_succ] at hk
    have hl : k < S.length := (List.getElem?_eq_some_iff.mp hk).1
    rw [show (((v :: S).length : Nat) : Int) - 1 - ((k + 1 : Nat) : Int) = S.length - 1 - k by simp; omega, mset_i (by omega)]
    exact h2 k a hk
theorem stk_top {w : mW} {S : List Int} {t : Int} (h : stk w (t :: S)) : w 40 (w 41 0 - 1) = t ∧ w 41 0 = S.length + 1 := by
  obtain ⟨h1, h2⟩ := h
  have := h2 0 t rfl
  rw [h1]
  refine ⟨?_, by simp⟩
  rw [← this]; congr 1; simp
theorem stk_pop {w w' : mW} {S : List Int} {t : Int} (h : stk w (t :: S)) (h1 : w' 41 0 = w 41 0 - 1) (h2 : ∀ i, w' 40 i = w 40 i) : stk w' S := by
  obtain ⟨a1, a2⟩ := h
  refine ⟨by rw [h1, a1]; simp, ?_⟩
  intro k a hk
  have := a2 (k + 1) a (by simpa using hk)
  rw [h2, ← this]; congr 1; simp; omega
theorem stk_bg {w : mW} {t : Int} : stk (bgW w t) [t] := by
  refine ⟨by unfold bgW; rw [mset_s]; rfl, ?_⟩
  intro k a hk
  cases k with
  | zero =>
    simp at hk
    subst hk
    unfold bgW
    rw [mset_k (by decide)]
    exact mset_s
  | succ k => simp at hk
def fcL (w : mW) (t : Int) (n : Nat) : List Int := (List.range n).map fun j => w 7 (3 * t + (j : Nat))
def upL (w : mW) (t : Int) : List Int := if w 2 t ≠ -1 then [w 2 t] else []
def chL (w : mW) (f : Bool) (t : Int) : List Int := if f then upL w t ++ fcL w t (w 6 t).toNat else fcL w t (w 6 t).toNat ++ upL w t
theorem stk_ph {w : mW} {t : Int} : ∀ (k : Nat) {w' : mW} {S : List Int}, sQ w w' → stk w' S → stk (phW w' t k) (fcL w t k ++ S)
  | 0, _, _, _, h => h
  | k + 1, w', S, q, h => by
    have := stk_ph (t := t) k (psW_q q) (stk_push (v := w' 7 (3 * t + k)) h)
    rw [q 7 _ (by decide) (by decide) (by decide)] at this
    unfold phW
    rw [q 7 _ (by decide) (by decide) (by decide)]
    have e : fcL w t (k + 1) ++ S = fcL w t k ++ (w 7 (3 * t + k) :: S) := by
      unfold fcL; rw [List.range_succ, List.map_append]; simp
    rw [e]; exact this
theorem stk_lh {w w' : mW} {t : Int} {f : Bool} {S : List Int} (q : sQ w w') (h : stk w' S) : stk (lhW w' t f) (chL w f t ++ S) := by
  have e2 : w' 2 t = w 2 t := q 2 t (by decide) (by decide) (by decide)
  have e6 : w' 6 t = w 6 t := q 6 t (by decide) (by decide) (by decide)
  unfold lhW lh1 chL upL
  rw [e2, e6]
  cases f
  · simp only [Bool.and_false, Bool.false_eq_true, if_false, Bool.not_false, Bool.and_true, decide_eq_true_eq]
    by_cases hu : w 2 t ≠ -1
    · rw [if_pos hu, if_pos hu, List.append_assoc]; exact stk_ph _ (psW_q q) (stk_push h)
    · rw [if_neg hu, if_neg hu, List.append_nil]; exact stk_ph _ q h
  · simp only [Bool.and_true, Bool.not_true, Bool.and_false, Bool.false_eq_true, if_false, if_true, decide_eq_true_eq]
    by_cases hu : w 2 t ≠ -1
    · rw [if_pos hu, if_pos hu]; exact stk_push (stk_ph _ q h)
    · rw [if_neg hu, if_neg hu, List.nil_append]; exact stk_ph _ q h
theorem chL_len {w : mW} {f : Bool} {t : Int} (h : 0 ≤ w 6 t ∧ w 6 t ≤ 3) : (chL w f t).length ≤ 4 := by
  have h1 : (upL w t).length ≤ 1 := by unfold upL; split <;> simp
  have h2 : (fcL w t (w 6 t).toNat).length ≤ 3 := by unfold fcL; simp; omega
  unfold chL
  cases f <;> simp only [if_true, Bool.false_eq_true, if_false, List.length_append] <;> omega
theorem chL_in {w : mW} (hS : mS w) {f : Bool} {t x : Int} (h0 : 0 ≤ t) (h1 : t < w 0 0) (hx : x ∈ chL w f t) : 0 ≤ x ∧ x < t := by
  obtain ⟨a1, a2, a3, a4, a5, a6, a7, a8⟩ := hS.T h0 h1
  have hu : x ∈ upL w t → 0 ≤ x ∧ x < t := by
    unfold upL
    split
    · intro h; simp at h; omega
    · intro h; simp at h
  have hf : x ∈ fcL w t (w 6 t).toNat → 0 ≤ x ∧ x < t := by
    unfold fcL
    intro h
    obtain ⟨j, hj, rfl⟩ := List.mem_map.mp h
    have := a3 j (by omega) (by have := List.mem_range.mp hj; omega)
    omega
  unfold chL at hx
  cases f <;> simp only [if_true, Bool.false_eq_true, if_false, List.mem_append] at hx <;> rcases hx with h | h <;> first | exact hu h | exact hf h
/-- the first one that is taken, of those ahead and of theirs -/
def dfs (p : Int → Bool) (ch : Int → List Int) : Nat → List Int → (Int → Bool) → Int
  | 0, _, _ => -1
  | _ + 1, [], _ => -1
  | f + 1, t :: S, V => if V t then dfs p ch f S V else if p t then t else dfs p ch f (ch t ++ S) (fun x => V x || decide (x = t))
def unN (V : Int → Bool) : Nat := cntN (fun k => !V k) 60
theorem cntN_one {p q : Nat → Bool} {t : Nat} (hp : p t = true) (hq : q t = false) (h : ∀ k, k ≠ t → q k = p k) : ∀ n : Nat, cntN q n + (if t < n then 1 else 0) = cntN p n
  | 0 => by simp [cntN]
  | n + 1 => by
    have ih := cntN_one hp hq h n
    simp only [cntN]
    by_cases e : n = t
    · subst e; rw [hp, hq]; simp at ih ⊢; omega
    · rw [h n e]
      generalize (if p n = true then 1 else 0) = z
      by_cases h2 : t < n
      · rw [if_pos h2] at ih; rw [if_pos (by omega)]; omega
      · rw [if_neg h2] at ih; rw [if_neg (by omega)]; omega
theorem unN_set {V : Int → Bool} {t : Int} (h0 : 0 ≤ t ∧ t < 60) (hV : V t = false) : unN (fun x => V x || decide (x = t)) + 1 = unN V := by
  obtain ⟨n, rfl⟩ := Int.eq_ofNat_of_zero_le h0.1
  have := cntN_one (p := fun k => !V (k : Nat)) (q := fun k => !(V (k : Nat) || decide (((k : Nat) : Int) = (n : Int)))) (t := n) (by simp; exact hV) (by simp) (fun k hk => by have : ¬ ((k : Int) = (n : Int)) := by omega
                                                                                                                                                                                simp [this]) 60
  rw [if_pos (by omega)] at this
  exact this
theorem mS_q {w w' : mW} (q : sQ w w') (h : mS w) : mS w' := by
  have e : ∀ (k : Nat) (i : Int), k ≠ 40 → k ≠ 41 → k ≠ 42 → w' k i = w k i := q
  unfold mS mB mT mM mX mL at *
  simp only [e 0 _ (by decide) (by decide) (by decide), e 1 _ (by decide) (by decide) (by decide), e 2 _ (by decide) (by decide) (by decide), e 4 _ (by decide) (by decide) (by decide), e 5 _ (by decide) (by decide) (by decide), e 6 _ (by decide) (by decide) (by decide), e 7 _ (by decide) (by decide) (by decide), e 9 _ (by decide) (by decide) (by decide), e 10 _ (by decide) (by decide) (by decide), e 11 _ (by decide) (by decide) (by decide), e 13 _ (by decide) (by decide) (by decide), e 17 _ (by decide) (by decide) (by decide), e 18 _ (by decide) (by decide) (by decide), e 19 _ (by decide) (by decide) (by decide), e 27 _ (by decide) (by decide) (by decide), e 28 _ (by decide) (by decide) (by decide), e 29 _ (by decide) (by decide) (by decide), e 32 _ (by decide) (by decide) (by decide), e 33 _ (by decide) (by decide) (by decide), e 34 _ (by decide) (by decide) (by decide)]
  exact h

set_option maxRecDepth 100000 in
theorem k7_beginAt {l : Launch} {θ : zTh} {N : zMap} {am : Nat} {ar : Nat → Nat} {w : mW} (hD : mDis am ar) (hw : mWF w) (t : Int) (r_t : inR t)  : ZF θ l yX7_beginAt cX7_beginAt 3 none ⟨0, 0, 0, 0⟩ [.ref (am), .int (iI (t))] (mP θ am ar w N) none (mP θ am ar (bgW w t) N) := by
  refine z_start (own := RX7) (nm := "beginAt") pnX7 rfl rfl (Nat.le_of_ble_eq_true rfl) ?_
  intro κ hκ hκl C
  change Z κ (mP θ am ar w N) 0 0 0 [(0, .ref (am)), (1, .int (iI (t)))] []
  refine z_iconst C 1 dX7_beginAt_0 rfl ?_
  refine z_istore_n (lv' := [(0, .ref (am)), (1, .int (iI (t))), (2, .int (iI (0)))]) C 2 [1, 2, 0] dX7_beginAt_1 (by decide) rfl rfl ?_
  have L2_1 : ∀ (fu : Nat) (k : Nat) (w' : mW) (hk : k ≤ 60) (ew : w' = clW w k) (hw' : mWF w') (hme : 60 - k < fu), Z κ (mP θ am ar w' N) 0 0 2 [(0, .ref (am)), (1, .int (iI (t))), (2, .int (iI ((k : Int))))] [] := by
    intro fu
    induction fu with
    | zero => intro k w' hk ew hw' hme; exact absurd hme (Nat.not_lt_zero _)
    | succ fu ih2 =>
      intro k w' hk ew hw' hme
      refine z_iload_n C 3 2 dX7_beginAt_2 rfl rfl ?_
      refine z_bipush C 5 dX7_beginAt_3 (by decide) rfl ?_
      refine z_icmp_ge C 21 8 dX7_beginAt_5 (by decide) ⟨by omega, by omega⟩ ⟨by decide, by decide⟩ rfl (fun c3 => ?_) (fun c3 => ?_)
      · skip
        refine z_aload_n C 22 0 dX7_beginAt_21 rfl rfl ?_
        refine m_geta C hκ 25 40 (by decide) rfl q2035 rfl dX7_beginAt_22 rfl ?_
        refine z_iconst C 26 dX7_beginAt_25 rfl ?_
        refine z_iload_n C 27 1 dX7_beginAt_26 rfl rfl ?_
        obtain ⟨w1, ew1⟩ : ∃ wz, mset w' 40 (0) (t) = wz := ⟨_, rfl⟩
        have hw1 : mWF w1 := ew1 ▸ hw'.set r_t rfl
        refine m_iast (len := 248) (w' := w1) C hκ hD 28 40 (by decide) rfl rfl (by decide) (by decide) dX7_beginAt_27 rfl ew1 ?_
        refine z_aload_n C 29 0 dX7_beginAt_28 rfl rfl ?_
        refine z_iconst C 30 dX7_beginAt_29 rfl ?_
        obtain ⟨w2, ew2⟩ : ∃ wz, mset w1 41 (0) (1) = wz := ⟨_, rfl⟩
        have hw2 : mWF w2 := ew2 ▸ hw1.set ⟨by decide, by decide⟩ rfl
        refine m_puti (w' := w2) C hκ 33 41 (by decide) (by decide) rfl q2036 rfl rfl rfl rfl dX7_beginAt_30 rfl ew2 ?_
        exact z_vret C dX7_beginAt_33 (Nat.le_of_ble_eq_true rfl) (Nat.le_of_ble_eq_true rfl) ⟨rfl, (congrArg (fun w' => mP θ am ar w' N) (by unfold bgW; rw [show 60 = k by omega]; subst_vars; rfl))⟩
      · skip
        refine z_aload_n C 9 0 dX7_beginAt_8 rfl rfl ?_
        refine m_geta C hκ 12 42 (by decide) rfl q2037 rfl dX7_beginAt_9 rfl ?_
        refine z_iload_n C 13 2 dX7_beginAt_12 rfl rfl ?_
        refine z_iconst C 14 dX7_beginAt_13 rfl ?_
        obtain ⟨w3, ew3⟩ : ∃ wz, mset w' 42 ((k : Int)) (0) = wz := ⟨_, rfl⟩
        have hw3 : mWF w3 := ew3 ▸ hw'.setB (Or.inl rfl)
        refine m_bast (len := 60) (w' := w3) C hκ hD 15 42 (by decide) rfl rfl (by omega) (by omega) (Or.inl rfl) dX7_beginAt_14 rfl ew3 ?_
        refine z_iinc (lv' := [(0, .ref (am)), (1, .int (iI (t))), (2, .int (iI (((k : Int)) + 1)))]) C 18 2 [1, 2, 0] dX7_beginAt_15 rfl (by decide) rfl rfl ?_
        refine z_goto C 2 dX7_beginAt_18 (by decide) ?_
        refine z_as (lv' := [(0, .ref (am)), (1, .int (iI (t))), (2, .int (iI (((k + 1) : Int))))]) rfl rfl rfl ?_
        exact ih2 (k + 1) (w3) (by omega) (by rw [← ew3]; simp only [clW]; rw [← ew]) hw3 (by omega)
  refine z_as (lv' := [(0, .ref (am)), (1, .int (iI (t))), (2, .int (iI (((0) : Int))))]) rfl rfl rfl ?_
  exact L2_1 _ (0) (w) (Nat.zero_le _) rfl hw (Nat.lt_succ_self _)
set_option maxRecDepth 100000 in
theorem k7_nextType {l : Launch} {θ : zTh} {N : zMap} {am : Nat} {ar : Nat → Nat} {w : mW} (hD : mDis am ar) (hw : mWF w)   (hm : 1 ≤ w 41 0 ∧ w 41 0 ≤ 248) (ht : 0 ≤ w 40 (w 41 0 - 1) ∧ w 40 (w 41 0 - 1) < 60) : ZF θ l yX7_nextType cX7_nextType 3 (some .int) ⟨0, 0, 0, 0⟩ [.ref (am)] (mP θ am ar w N) (some (.int (iI (if mb w 42 (w 40 (w 41 0 - 1)) then -1 else w 40 (w 41 0 - 1))))) (mP θ am ar (mset (mset w 41 0 (w 41 0 - 1)) 42 (w 40 (w 41 0 - 1)) 1) N) := by
  refine z_start (own := RX7) (nm := "nextType") pnX7 rfl rfl (Nat.le_of_ble_eq_true rfl) ?_
  intro κ hκ hκl C
  change Z κ (mP θ am ar w N) 0 0 0 [(0, .ref (am))] []
  refine z_aload_n C 1 0 dX7_nextType_0 rfl rfl ?_
  refine z_dup C 2 dX7_nextType_1 rfl rfl ?_
  refine m_geti C hκ 5 41 (by decide) rfl q2036 rfl dX7_nextType_2 rfl ?_
  refine z_iconst C 6 dX7_nextType_5 rfl ?_
  refine z_isub C 7 dX7_nextType_6 rfl ?_
  obtain ⟨w1, ew1⟩ : ∃ wz, mset w 41 (0) ((w 41 0) - (1)) = wz := ⟨_, rfl⟩
  have hw1 : mWF w1 := ew1 ▸ hw.set ⟨by omega, by omega⟩ rfl
  refine m_puti (w' := w1) C hκ 10 41 (by decide) (by decide) rfl q2036 rfl rfl rfl rfl dX7_nextType_7 rfl ew1 ?_
  have z1 : w1 41 0 = w 41 0 - 1 := by rw [← ew1, mset_s]
  have z2 : ∀ i, w1 40 i = w 40 i := fun i => by rw [← ew1]; exact mset_k (by decide)
  have z3 : ∀ i, w1 42 i = w 42 i := fun i => by rw [← ew1]; exact mset_k (by decide)
  have z4 : w1 40 (w1 41 0) = w 40 (w 41 0 - 1) := by rw [z2, z1]
  have z5 : mb w1 42 (w1 40 (w1 41 0)) = mb w 42 (w 40 (w 41 0 - 1)) := by rw [z4]; unfold mb; rw [z3]
  refine z_aload_n C 11 0 dX7_nextType_10 rfl rfl ?_
  refine m_geta C hκ 14 40 (by decide) rfl q2035 rfl dX7_nextType_11 rfl ?_
  refine z_aload_n C 15 0 dX7_nextType_14 rfl rfl ?_
  refine m_geti C hκ 18 41 (by decide) rfl q2036 rfl dX7_nextType_15 rfl ?_
  refine m_iald (len := 248) C hκ hD 19 40 (by decide) rfl rfl (by omega) (by omega) dX7_nextType_18 rfl ?_
  refine z_istore_n (lv' := [(0, .ref (am)), (1, .int (iI (w1 40 (w1 41 0))))]) C 20 [1, 0] dX7_nextType_19 (by decide) rfl rfl ?_
  refine z_aload_n C 21 0 dX7_nextType_20 rfl rfl ?_
  refine m_geta C hκ 24 42 (by decide) rfl q2037 rfl dX7_nextType_21 rfl ?_
  refine z_iload_n C 25 1 dX7_nextType_24 rfl rfl ?_
  refine m_bald (len := 60) C hκ hD hw1 26 42 (by decide) rfl rfl rfl (by omega) (by omega) dX7_nextType_25 rfl ?_
  refine z_istore_n (lv' := [(0, .ref (am)), (1, .int (iI (w1 40 (w1 41 0)))), (2, .int (iI (bI (mb w1 42 (w1 40 (w1 41 0))))))]) C 27 [1, 2, 0] dX7_nextType_26 (by decide) rfl rfl ?_
  refine z_aload_n C 28 0 dX7_nextType_27 rfl rfl ?_
  refine m_geta C hκ 31 42 (by decide) rfl q2037 rfl dX7_nextType_28 rfl ?_
  refine z_iload_n C 32 1 dX7_nextType_31 rfl rfl ?_
  refine z_iconst C 33 dX7_nextType_32 rfl ?_
  obtain ⟨w2, ew2⟩ : ∃ wz, mset w1 42 (w1 40 (w1 41 0)) (1) = wz := ⟨_, rfl⟩
  have hw2 : mWF w2 := ew2 ▸ hw1.setB (Or.inr rfl)
  refine m_bast (len := 60) (w' := w2) C hκ hD 34 42 (by decide) rfl rfl (by omega) (by omega) (Or.inr rfl) dX7_nextType_33 rfl ew2 ?_
  refine z_iload_n C 35 2 dX7_nextType_34 rfl rfl ?_
  refine z_ifB_eq C 42 38 dX7_nextType_35 (by decide) rfl (fun c1 => ?_) (fun c1 => ?_)
  · skip
    have c1b : ¬ (w1 42 (w1 40 (w1 41 0)) = 1) := of_decide_eq_false c1
    refine z_iload_n C 43 1 dX7_nextType_42 rfl rfl ?_
    exact z_iret C dX7_nextType_43 rfl (Nat.le_of_ble_eq_true rfl) (Nat.le_of_ble_eq_true rfl) ⟨congrArg (fun z => some (Value.int (iI z))) (by clear C hκ hκl ; rw [← z5, ← z4]; simp_all), (congrArg (fun w' => mP θ am ar w' N) (by rw [← z4]; subst_vars; rfl))⟩
  · skip
    have c1b : (w1 42 (w1 40 (w1 41 0)) = 1) := of_decide_eq_true c1
    refine z_iconst C 39 dX7_nextType_38 rfl ?_
    refine z_goto C 43 dX7_nextType_39 (by decide) ?_
    exact z_iret C dX7_nextType_43 rfl (Nat.le_of_ble_eq_true rfl) (Nat.le_of_ble_eq_true rfl) ⟨congrArg (fun z => some (Value.int (iI z))) (by clear C hκ hκl ; rw [← z5, ← z4]; simp_all), (congrArg (fun w' => mP θ am ar w' N) (by rw [← z4]; subst_vars; rfl))⟩
set_option maxRecDepth 100000 in
theorem k7_layAhead {l : Launch} {θ : zTh} {N : zMap} {am : Nat} {ar : Nat → Nat} {w : mW} (hD : mDis am ar) (hw : mWF w) (t : Int) (f : Bool) (r_t : inR t) (hS : mS w) (ht : 0 ≤ t ∧ t < w 0 0) (hm : 0 ≤ w 41 0 ∧ w 41 0 + 5 ≤ 248) : ZF θ l yX7_layAhead cX7_layAhead 5 none ⟨0, 0, 0, 0⟩ [.ref (am), .int (iI (t)), .int (iI (bI (f)))] (mP θ am ar w N) none (mP θ am ar (lhW w t f) N) := by
  refine z_start (own := RX7) (nm := "layAhead") pnX7 rfl rfl (Nat.le_of_ble_eq_true rfl) ?_
  intro κ hκ hκl C
  change Z κ (mP θ am ar w N) 0 0 0 [(0, .ref (am)), (1, .int (iI (t))), (2, .int (iI (bI (f))))] []
  have hB := hS.B
  obtain ⟨hB1, hB2, hB3, hB4, hB5, hB6⟩ := hS.B
  have hC := hS.C
  obtain ⟨ta, tb, tc, td, te, tf, tg, th⟩ := hS.T ht.1 ht.2
  have L16_1 : ∀ (fu : Nat)   (hme : 0 < fu), Z κ (mP θ am ar w N) 0 0 16 [(0, .ref (am)), (1, .int (iI (t))), (2, .int (iI (bI (f)))), (3, .int (iI (bI (decide (w 2 t ≠ -1)))))] [] := by
    intro fu
    induction fu with
    | zero => intro  hme; exact absurd hme (Nat.not_lt_zero _)
    | succ fu ih2 =>
      intro  hme
      refine z_iload_n C 17 3 dX7_layAhead_16 rfl rfl ?_
      refine z_ifB_eq C 49 20 dX7_layAhead_17 (by decide) rfl (fun c3 => ?_) (fun c3 => ?_)
      · skip
        have c3b : ¬ ((w 2 t ≠ -1)) := of_decide_eq_false c3
        have e6x : True := trivial
        refine z_aload_n C 50 0 dX7_layAhead_49 rfl rfl ?_
        refine m_geta C hκ 53 6 (by decide) rfl q2001 rfl dX7_layAhead_50 rfl ?_
        refine z_iload_n C 54 1 dX7_layAhead_53 rfl rfl ?_
        obtain ⟨f4a, f4b, f4c, f4d, f4e, f4f, f4g, f4h⟩ := hS.T (show 0 ≤ t by omega) (by omega)
        refine m_iald (len := 60) C hκ hD 55 6 (by decide) rfl rfl (by omega) (by omega) dX7_layAhead_54 rfl ?_
        refine z_iconst C 56 dX7_layAhead_55 rfl ?_
        refine z_isub C 57 dX7_layAhead_56 rfl ?_
        refine z_istore (lv' := [(0, .ref (am)), (1, .int (iI (t))), (2, .int (iI (bI (f)))), (3, .int (iI (bI (decide (w 2 t ≠ -1))))), (4, .int (iI ((w 6 (t)) - (1))))]) C 59 [1, 2, 3, 4, 0] dX7_layAhead_57 (by decide) rfl rfl ?_
        have L59_5 : ∀ (fu : Nat) (k : Nat) (w' : mW) (z : Int) (eph : phW w' t k = phW (lh1 w t f) t (w 6 t).toNat) (hw' : mWF w') (qw : sQ w w') (hb41 : 0 ≤ w' 41 0 ∧ w' 41 0 + k + 1 ≤ 248) (hk3 : (k : Int) ≤ w 6 t) (hz : z = (k : Int) - 1) (hme : k < fu), Z κ (mP θ am ar w' N) 0 0 59 [(0, .ref (am)), (1, .int (iI (t))), (2, .int (iI (bI (f)))), (3, .int (iI (bI (decide (w 2 t ≠ -1))))), (4, .int (iI (z)))] [] := by
          intro fu
          induction fu with
          | zero => intro k w' z eph hw' qw hb41 hk3 hz hme; exact absurd hme (Nat.not_lt_zero _)
          | succ fu ih6 =>
            intro k w' z eph hw' qw hb41 hk3 hz hme
            have e7 : ∀ i, w' 7 i = w 7 i := fun i => qw 7 i (by decide) (by decide) (by decide)
            have e2 : w' 2 t = w 2 t := qw 2 t (by decide) (by decide) (by decide)
            have c7 : 1 ≤ k → 8 ≤ w' 7 (3 * t + z) ∧ w' 7 (3 * t + z) < t := fun h => by rw [e7]; exact tc _ (by omega) (by omega)
            refine z_iload C 61 4 dX7_layAhead_59 rfl rfl ?_
            refine z_if_lt C 100 64 dX7_layAhead_61 (by decide) ⟨by omega, by omega⟩ rfl (fun c7 => ?_) (fun c7 => ?_)
            · skip
              refine z_iload_n C 101 3 dX7_layAhead_100 rfl rfl ?_
              refine z_ifB_eq C 133 104 dX7_layAhead_101 (by decide) rfl (fun c8 => ?_) (fun c8 => ?_)
              · skip
                have c8b : ¬ ((w 2 t ≠ -1)) := of_decide_eq_false c8
                exact z_vret C dX7_layAhead_133 (Nat.le_of_ble_eq_true rfl) (Nat.le_of_ble_eq_true rfl) ⟨rfl, (congrArg (fun w' => mP θ am ar w' N) (by unfold lhW; rw [if_neg (by simp_all), ← eph, show k = 0 by omega]; rfl))⟩
              · skip
                have c8b : ((w 2 t ≠ -1)) := of_decide_eq_true c8
                refine z_iload_n C 105 2 dX7_layAhead_104 rfl rfl ?_
                refine z_ifB_eq C 133 108 dX7_layAhead_105 (by decide) rfl (fun c9 => ?_) (fun c9 => ?_)
                · skip
                  exact z_vret C dX7_layAhead_133 (Nat.le_of_ble_eq_true rfl) (Nat.le_of_ble_eq_true rfl) ⟨rfl, (congrArg (fun w' => mP θ am ar w' N) (by unfold lhW; rw [if_neg (by simp_all), ← eph, show k = 0 by omega]; rfl))⟩
                · skip
                  refine z_aload_n C 109 0 dX7_layAhead_108 rfl rfl ?_
                  refine m_geta C hκ 112 40 (by decide) rfl q2035 rfl dX7_layAhead_109 rfl ?_
                  refine z_aload_n C 113 0 dX7_layAhead_112 rfl rfl ?_
                  refine m_geti C hκ 116 41 (by decide) rfl q2036 rfl dX7_layAhead_113 rfl ?_
                  refine z_aload_n C 117 0 dX7_layAhead_116 rfl rfl ?_
                  refine m_geta C hκ 120 2 (by decide) rfl q1997 rfl dX7_layAhead_117 rfl ?_
                  refine z_iload_n C 121 1 dX7_layAhead_120 rfl rfl ?_
                  refine m_iald (len := 60) C hκ hD 122 2 (by decide) rfl rfl (by omega) (by omega) dX7_layAhead_121 rfl ?_
                  obtain ⟨w1, ew1⟩ : ∃ wz, mset w' 40 (w' 41 0) (w' 2 (t)) = wz := ⟨_, rfl⟩
                  have hw1 : mWF w1 := ew1 ▸ hw'.set (hw'.r _ _ rfl) rfl
                  refine m_iast (len := 248) (w' := w1) C hκ hD 123 40 (by decide) rfl rfl (by omega) (by omega) dX7_layAhead_122 rfl ew1 ?_
                  have z10 : w1 41 0 = w' 41 0 := by rw [← ew1]; exact mset_k (by decide)
                  refine z_aload_n C 124 0 dX7_layAhead_123 rfl rfl ?_
                  refine z_dup C 125 dX7_layAhead_124 rfl rfl ?_
                  refine m_geti C hκ 128 41 (by decide) rfl q2036 rfl dX7_layAhead_125 rfl ?_
                  refine z_iconst C 129 dX7_layAhead_128 rfl ?_
                  refine z_iadd C 130 dX7_layAhead_129 rfl ?_
                  obtain ⟨w2, ew2⟩ : ∃ wz, mset w1 41 (0) ((w1 41 0) + (1)) = wz := ⟨_, rfl⟩
                  have hw2 : mWF w2 := ew2 ▸ hw1.set ⟨by omega, by omega⟩ rfl
                  refine m_puti (w' := w2) C hκ 133 41 (by decide) (by decide) rfl q2036 rfl rfl rfl rfl dX7_layAhead_130 rfl ew2 ?_
                  have ep2 : psW w' (w' 2 t) = w2 := by unfold psW; rw [← ew2, ← ew1, mset_k (show (41 : Nat) ≠ 40 by decide)]
                  exact z_vret C dX7_layAhead_133 (Nat.le_of_ble_eq_true rfl) (Nat.le_of_ble_eq_true rfl) ⟨rfl, (congrArg (fun w' => mP θ am ar w' N) (by unfold lhW; rw [if_pos (by simp_all), ← eph, show k = 0 by omega, ← ep2, e2]; rfl))⟩
            · skip
              refine z_aload_n C 65 0 dX7_layAhead_64 rfl rfl ?_
              refine m_geta C hκ 68 40 (by decide) rfl q2035 rfl dX7_layAhead_65 rfl ?_
              refine z_aload_n C 69 0 dX7_layAhead_68 rfl rfl ?_
              refine m_geti C hκ 72 41 (by decide) rfl q2036 rfl dX7_layAhead_69 rfl ?_
              refine z_aload_n C 73 0 dX7_layAhead_72 rfl rfl ?_
              refine m_geta C hκ 76 7 (by decide) rfl q2002 rfl dX7_layAhead_73 rfl ?_
              refine z_iconst C 77 dX7_layAhead_76 rfl ?_
              refine z_iload_n C 78 1 dX7_layAhead_77 rfl rfl ?_
              refine z_imul C 79 dX7_layAhead_78 rfl ?_
              refine z_iload C 81 4 dX7_layAhead_79 rfl rfl ?_
              refine z_iadd C 82 dX7_layAhead_81 rfl ?_
              refine m_iald (len := 180) C hκ hD 83 7 (by decide) rfl rfl (by omega) (by omega) dX7_layAhead_82 rfl ?_
              obtain ⟨w3, ew3⟩ : ∃ wz, mset w' 40 (w' 41 0) (w' 7 (((3) * (t)) + (z))) = wz := ⟨_, rfl⟩
              have hw3 : mWF w3 := ew3 ▸ hw'.set (hw'.r _ _ rfl) rfl
              refine m_iast (len := 248) (w' := w3) C hκ hD 84 40 (by decide) rfl rfl (by omega) (by omega) dX7_layAhead_83 rfl ew3 ?_
              have z11 : w3 41 0 = w' 41 0 := by rw [← ew3]; exact mset_k (by decide)
              refine z_aload_n C 85 0 dX7_layAhead_84 rfl rfl ?_
              refine z_dup C 86 dX7_layAhead_85 rfl rfl ?_
              refine m_geti C hκ 89 41 (by decide) rfl q2036 rfl dX7_layAhead_86 rfl ?_
              refine z_iconst C 90 dX7_layAhead_89 rfl ?_
              refine z_iadd C 91 dX7_layAhead_90 rfl ?_
              obtain ⟨w4, ew4⟩ : ∃ wz, mset w3 41 (0) ((w3 41 0) + (1)) = wz := ⟨_, rfl⟩
              have hw4 : mWF w4 := ew4 ▸ hw3.set ⟨by omega, by omega⟩ rfl
              refine m_puti (w' := w4) C hκ 94 41 (by decide) (by decide) rfl q2036 rfl rfl rfl rfl dX7_layAhead_91 rfl ew4 ?_
              refine z_iinc (lv' := [(0, .ref (am)), (1, .int (iI (t))), (2, .int (iI (bI (f)))), (3, .int (iI (bI (decide (w 2 t ≠ -1))))), (4, .int (iI ((z) + (-1))))]) C 97 4 [1, 2, 3, 4, 0] dX7_layAhead_94 rfl (by decide) rfl rfl ?_
              refine z_goto C 59 dX7_layAhead_97 (by decide) ?_
              have ep1 : psW w' (w' 7 (3 * t + z)) = w4 := by unfold psW; rw [← ew4, ← ew3, mset_k (show (41 : Nat) ≠ 40 by decide)]
              have e41 : w4 41 0 = w' 41 0 + 1 := by rw [← ep1]; exact psW_41
              refine z_as (lv' := [(0, .ref (am)), (1, .int (iI (t))), (2, .int (iI (bI (f)))), (3, .int (iI (bI (decide (w 2 t ≠ -1))))), (4, .int (iI (((z) + (-1)))))]) rfl rfl rfl ?_
              exact ih6 (k - 1) (w4) ((z) + (-1)) (by rw [← eph, ← ep1]; obtain ⟨k', rfl⟩ : ∃ k', k = k' + 1 := ⟨k - 1, by omega⟩; show phW _ t k' = phW (psW w' (w' 7 (3 * t + k'))) t k'; rw [hz, show (((k' + 1 : Nat) : Int) - 1) = k' by omega]) hw4 (ep1 ▸ psW_q qw) (by omega) (by omega) (by omega) (by omega)
        have eq0 : lh1 w t f = w := by unfold lh1; rw [if_neg (by simp_all)]
        refine z_as (lv' := [(0, .ref (am)), (1, .int (iI (t))), (2, .int (iI (bI (f)))), (3, .int (iI (bI (decide (w 2 t ≠ -1))))), (4, .int (iI (((w 6 (t)) - (1)))))]) rfl rfl rfl ?_
        exact L59_5 _ ((w 6 t).toNat) (w) ((w 6 (t)) - (1)) (by rw [eq0]) hw sQ.refl (by omega) (by omega) (by omega) (Nat.lt_succ_self _)
      · skip
        have c3b : ((w 2 t ≠ -1)) := of_decide_eq_true c3
        refine z_iload_n C 21 2 dX7_layAhead_20 rfl rfl ?_
        refine z_ifB_ne C 49 24 dX7_layAhead_21 (by decide) rfl (fun c12 => ?_) (fun c12 => ?_)
        · skip
          have e6x : True := trivial
          refine z_aload_n C 50 0 dX7_layAhead_49 rfl rfl ?_
          refine m_geta C hκ 53 6 (by decide) rfl q2001 rfl dX7_layAhead_50 rfl ?_
          refine z_iload_n C 54 1 dX7_layAhead_53 rfl rfl ?_
          obtain ⟨f13a, f13b, f13c, f13d, f13e, f13f, f13g, f13h⟩ := hS.T (show 0 ≤ t by omega) (by omega)
          refine m_iald (len := 60) C hκ hD 55 6 (by decide) rfl rfl (by omega) (by omega) dX7_layAhead_54 rfl ?_
          refine z_iconst C 56 dX7_layAhead_55 rfl ?_
          refine z_isub C 57 dX7_layAhead_56 rfl ?_
          refine z_istore (lv' := [(0, .ref (am)), (1, .int (iI (t))), (2, .int (iI (bI (f)))), (3, .int (iI (bI (decide (w 2 t ≠ -1))))), (4, .int (iI ((w 6 (t)) - (1))))]) C 59 [1, 2, 3, 4, 0] dX7_layAhead_57 (by decide) rfl rfl ?_
          have L59_14 : ∀ (fu : Nat) (k : Nat) (w' : mW) (z : Int) (eph : phW w' t k = phW (lh1 w t f) t (w 6 t).toNat) (hw' : mWF w') (qw : sQ w w') (hb41 : 0 ≤ w' 41 0 ∧ w' 41 0 + k + 1 ≤ 248) (hk3 : (k : Int) ≤ w 6 t) (hz : z = (k : Int) - 1) (hme : k < fu), Z κ (mP θ am ar w' N) 0 0 59 [(0, .ref (am)), (1, .int (iI (t))), (2, .int (iI (bI (f)))), (3, .int (iI (bI (decide (w 2 t ≠ -1))))), (4, .int (iI (z)))] [] := by
            intro fu
            induction fu with
            | zero => intro k w' z eph hw' qw hb41 hk3 hz hme; exact absurd hme (Nat.not_lt_zero _)
            | succ fu ih15 =>
              intro k w' z eph hw' qw hb41 hk3 hz hme
              have e7 : ∀ i, w' 7 i = w 7 i := fun i => qw 7 i (by decide) (by decide) (by decide)
              have e2 : w' 2 t = w 2 t := qw 2 t (by decide) (by decide) (by decide)
              have c7 : 1 ≤ k → 8 ≤ w' 7 (3 * t + z) ∧ w' 7 (3 * t + z) < t := fun h => by rw [e7]; exact tc _ (by omega) (by omega)
              refine z_iload C 61 4 dX7_layAhead_59 rfl rfl ?_
              refine z_if_lt C 100 64 dX7_layAhead_61 (by decide) ⟨by omega, by omega⟩ rfl (fun c16 => ?_) (fun c16 => ?_)
              · skip
                refine z_iload_n C 101 3 dX7_layAhead_100 rfl rfl ?_
                refine z_ifB_eq C 133 104 dX7_layAhead_101 (by decide) rfl (fun c17 => ?_) (fun c17 => ?_)
                · skip
                  have c17b : ¬ ((w 2 t ≠ -1)) := of_decide_eq_false c17
                  exact z_vret C dX7_layAhead_133 (Nat.le_of_ble_eq_true rfl) (Nat.le_of_ble_eq_true rfl) ⟨rfl, (congrArg (fun w' => mP θ am ar w' N) (by unfold lhW; rw [if_neg (by simp_all), ← eph, show k = 0 by omega]; rfl))⟩
                · skip
                  have c17b : ((w 2 t ≠ -1)) := of_decide_eq_true c17
                  refine z_iload_n C 105 2 dX7_layAhead_104 rfl rfl ?_
                  refine z_ifB_eq C 133 108 dX7_layAhead_105 (by decide) rfl (fun c18 => ?_) (fun c18 => ?_)
                  · skip
                    exact z_vret C dX7_layAhead_133 (Nat.le_of_ble_eq_true rfl) (Nat.le_of_ble_eq_true rfl) ⟨rfl, (congrArg (fun w' => mP θ am ar w' N) (by unfold lhW; rw [if_neg (by simp_all), ← eph, show k = 0 by omega]; rfl))⟩
                  · skip
                    refine z_aload_n C 109 0 dX7_layAhead_108 rfl rfl ?_
                    refine m_geta C hκ 112 40 (by decide) rfl q2035 rfl dX7_layAhead_109 rfl ?_
                    refine z_aload_n C 113 0 dX7_layAhead_112 rfl rfl ?_
                    refine m_geti C hκ 116 41 (by decide) rfl q2036 rfl dX7_layAhead_113 rfl ?_
                    refine z_aload_n C 117 0 dX7_layAhead_116 rfl rfl ?_
                    refine m_geta C hκ 120 2 (by decide) rfl q1997 rfl dX7_layAhead_117 rfl ?_
                    refine z_iload_n C 121 1 dX7_layAhead_120 rfl rfl ?_
                    refine m_iald (len := 60) C hκ hD 122 2 (by decide) rfl rfl (by omega) (by omega) dX7_layAhead_121 rfl ?_
                    obtain ⟨w5, ew5⟩ : ∃ wz, mset w' 40 (w' 41 0) (w' 2 (t)) = wz := ⟨_, rfl⟩
                    have hw5 : mWF w5 := ew5 ▸ hw'.set (hw'.r _ _ rfl) rfl
                    refine m_iast (len := 248) (w' := w5) C hκ hD 123 40 (by decide) rfl rfl (by omega) (by omega) dX7_layAhead_122 rfl ew5 ?_
                    have z19 : w5 41 0 = w' 41 0 := by rw [← ew5]; exact mset_k (by decide)
                    refine z_aload_n C 124 0 dX7_layAhead_123 rfl rfl ?_
                    refine z_dup C 125 dX7_layAhead_124 rfl rfl ?_
                    refine m_geti C hκ 128 41 (by decide) rfl q2036 rfl dX7_layAhead_125 rfl ?_
                    refine z_iconst C 129 dX7_layAhead_128 rfl ?_
                    refine z_iadd C 130 dX7_layAhead_129 rfl ?_
                    obtain ⟨w6, ew6⟩ : ∃ wz, mset w5 41 (0) ((w5 41 0) + (1)) = wz := ⟨_, rfl⟩
                    have hw6 : mWF w6 := ew6 ▸ hw5.set ⟨by omega, by omega⟩ rfl
                    refine m_puti (w' := w6) C hκ 133 41 (by decide) (by decide) rfl q2036 rfl rfl rfl rfl dX7_layAhead_130 rfl ew6 ?_
                    have ep2 : psW w' (w' 2 t) = w6 := by unfold psW; rw [← ew6, ← ew5, mset_k (show (41 : Nat) ≠ 40 by decide)]
                    exact z_vret C dX7_layAhead_133 (Nat.le_of_ble_eq_true rfl) (Nat.le_of_ble_eq_true rfl) ⟨rfl, (congrArg (fun w' => mP θ am ar w' N) (by unfold lhW; rw [if_pos (by simp_all), ← eph, show k = 0 by omega, ← ep2, e2]; rfl))⟩
              · skip
                refine z_aload_n C 65 0 dX7_layAhead_64 rfl rfl ?_
                refine m_geta C hκ 68 40 (by decide) rfl q2035 rfl dX7_layAhead_65 rfl ?_
                refine z_aload_n C 69 0 dX7_layAhead_68 rfl rfl ?_
                refine m_geti C hκ 72 41 (by decide) rfl q2036 rfl dX7_layAhead_69 rfl ?_
                refine z_aload_n C 73 0 dX7_layAhead_72 rfl rfl ?_
                refine m_geta C hκ 76 7 (by decide) rfl q2002 rfl dX7_layAhead_73 rfl ?_
                refine z_iconst C 77 dX7_layAhead_76 rfl ?_
                refine z_iload_n C 78 1 dX7_layAhead_77 rfl rfl ?_
                refine z_imul C 79 dX7_layAhead_78 rfl ?_
                refine z_iload C 81 4 dX7_layAhead_79 rfl rfl ?_
                refine z_iadd C 82 dX7_layAhead_81 rfl ?_
                refine m_iald (len := 180) C hκ hD 83 7 (by decide) rfl rfl (by omega) (by omega) dX7_layAhead_82 rfl ?_
                obtain ⟨w7, ew7⟩ : ∃ wz, mset w' 40 (w' 41 0) (w' 7 (((3) * (t)) + (z))) = wz := ⟨_, rfl⟩
                have hw7 : mWF w7 := ew7 ▸ hw'.set (hw'.r _ _ rfl) rfl
                refine m_iast (len := 248) (w' := w7) C hκ hD 84 40 (by decide) rfl rfl (by omega) (by omega) dX7_layAhead_83 rfl ew7 ?_
                have z20 : w7 41 0 = w' 41 0 := by rw [← ew7]; exact mset_k (by decide)
                refine z_aload_n C 85 0 dX7_layAhead_84 rfl rfl ?_
                refine z_dup C 86 dX7_layAhead_85 rfl rfl ?_
                refine m_geti C hκ 89 41 (by decide) rfl q2036 rfl dX7_layAhead_86 rfl ?_
                refine z_iconst C 90 dX7_layAhead_89 rfl ?_
                refine z_iadd C 91 dX7_layAhead_90 rfl ?_
                obtain ⟨w8, ew8⟩ : ∃ wz, mset w7 41 (0) ((w7 41 0) + (1)) = wz := ⟨_, rfl⟩
                have hw8 : mWF w8 := ew8 ▸ hw7.set ⟨by omega, by omega⟩ rfl
                refine m_puti (w' := w8) C hκ 94 41 (by decide) (by decide) rfl q2036 rfl rfl rfl rfl dX7_layAhead_91 rfl ew8 ?_
                refine z_iinc (lv' := [(0, .ref (am)), (1, .int (iI (t))), (2, .int (iI (bI (f)))), (3, .int (iI (bI (decide (w 2 t ≠ -1))))), (4, .int (iI ((z) + (-1))))]) C 97 4 [1, 2, 3, 4, 0] dX7_layAhead_94 rfl (by decide) rfl rfl ?_
                refine z_goto C 59 dX7_layAhead_97 (by decide) ?_
                have ep1 : psW w' (w' 7 (3 * t + z)) = w8 := by unfold psW; rw [← ew8, ← ew7, mset_k (show (41 : Nat) ≠ 40 by decide)]
                have e41 : w8 41 0 = w' 41 0 + 1 := by rw [← ep1]; exact psW_41
                refine z_as (lv' := [(0, .ref (am)), (1, .int (iI (t))), (2, .int (iI (bI (f)))), (3, .int (iI (bI (decide (w 2 t ≠ -1))))), (4, .int (iI (((z) + (-1)))))]) rfl rfl rfl ?_
                exact ih15 (k - 1) (w8) ((z) + (-1)) (by rw [← eph, ← ep1]; obtain ⟨k', rfl⟩ : ∃ k', k = k' + 1 := ⟨k - 1, by omega⟩; show phW _ t k' = phW (psW w' (w' 7 (3 * t + k'))) t k'; rw [hz, show (((k' + 1 : Nat) : Int) - 1) = k' by omega]) hw8 (ep1 ▸ psW_q qw) (by omega) (by omega) (by omega) (by omega)
          have eq0 : lh1 w t f = w := by unfold lh1; rw [if_neg (by simp_all)]
          refine z_as (lv' := [(0, .ref (am)), (1, .int (iI (t))), (2, .int (iI (bI (f)))), (3, .int (iI (bI (decide (w 2 t ≠ -1))))), (4, .int (iI (((w 6 (t)) - (1)))))]) rfl rfl rfl ?_
          exact L59_14 _ ((w 6 t).toNat) (w) ((w 6 (t)) - (1)) (by rw [eq0]) hw sQ.refl (by omega) (by omega) (by omega) (Nat.lt_succ_self _)
        · skip
          refine z_aload_n C 25 0 dX7_layAhead_24 rfl rfl ?_
          refine m_geta C hκ 28 40 (by decide) rfl q2035 rfl dX7_layAhead_25 rfl ?_
          refine z_aload_n C 29 0 dX7_layAhead_28 rfl rfl ?_
          refine m_geti C hκ 32 41 (by decide) rfl q2036 rfl dX7_layAhead_29 rfl ?_
          refine z_aload_n C 33 0 dX7_layAhead_32 rfl rfl ?_
          refine m_geta C hκ 36 2 (by decide) rfl q1997 rfl dX7_layAhead_33 rfl ?_
          refine z_iload_n C 37 1 dX7_layAhead_36 rfl rfl ?_
          obtain ⟨f21a, f21b, f21c, f21d, f21e, f21f, f21g, f21h⟩ := hS.T (show 0 ≤ t by omega) (by omega)
          refine m_iald (len := 60) C hκ hD 38 2 (by decide) rfl rfl (by omega) (by omega) dX7_layAhead_37 rfl ?_
          obtain ⟨w9, ew9⟩ : ∃ wz, mset w 40 (w 41 0) (w 2 (t)) = wz := ⟨_, rfl⟩
          have hw9 : mWF w9 := ew9 ▸ hw.set (hw.r _ _ rfl) rfl
          refine m_iast (len := 248) (w' := w9) C hκ hD 39 40 (by decide) rfl rfl (by omega) (by omega) dX7_layAhead_38 rfl ew9 ?_
          have z22 : w9 41 0 = w 41 0 := by rw [← ew9]; exact mset_k (by decide)
          refine z_aload_n C 40 0 dX7_layAhead_39 rfl rfl ?_
          refine z_dup C 41 dX7_layAhead_40 rfl rfl ?_
          refine m_geti C hκ 44 41 (by decide) rfl q2036 rfl dX7_layAhead_41 rfl ?_
          refine z_iconst C 45 dX7_layAhead_44 rfl ?_
          refine z_iadd C 46 dX7_layAhead_45 rfl ?_
          obtain ⟨w10, ew10⟩ : ∃ wz, mset w9 41 (0) ((w9 41 0) + (1)) = wz := ⟨_, rfl⟩
          have hw10 : mWF w10 := ew10 ▸ hw9.set ⟨by omega, by omega⟩ rfl
          refine m_puti (w' := w10) C hκ 49 41 (by decide) (by decide) rfl q2036 rfl rfl rfl rfl dX7_layAhead_46 rfl ew10 ?_
          have e6x : True := trivial
          refine z_aload_n C 50 0 dX7_layAhead_49 rfl rfl ?_
          refine m_geta C hκ 53 6 (by decide) rfl q2001 rfl dX7_layAhead_50 rfl ?_
          refine z_iload_n C 54 1 dX7_layAhead_53 rfl rfl ?_
          obtain ⟨f23a, f23b, f23c, f23d, f23e, f23f, f23g, f23h⟩ := hS.T (show 0 ≤ t by omega) (by omega)
          refine m_iald (len := 60) C hκ hD 55 6 (by decide) rfl rfl (by omega) (by omega) dX7_layAhead_54 rfl ?_
          refine z_iconst C 56 dX7_layAhead_55 rfl ?_
          refine z_isub C 57 dX7_layAhead_56 rfl ?_
          refine z_istore (lv' := [(0, .ref (am)), (1, .int (iI (t))), (2, .int (iI (bI (f)))), (3, .int (iI (bI (decide (w 2 t ≠ -1))))), (4, .int (iI ((w10 6 (t)) - (1))))]) C 59 [1, 2, 3, 4, 0] dX7_layAhead_57 (by decide) rfl rfl ?_
          have L59_24 : ∀ (fu : Nat) (k : Nat) (w' : mW) (z : Int) (eph : phW w' t k = phW (lh1 w t f) t (w 6 t).toNat) (hw' : mWF w') (qw : sQ w w') (hb41 : 0 ≤ w' 41 0 ∧ w' 41 0 + k + 1 ≤ 248) (hk3 : (k : Int) ≤ w 6 t) (hz : z = (k : Int) - 1) (hme : k < fu), Z κ (mP θ am ar w' N) 0 0 59 [(0, .ref (am)), (1, .int (iI (t))), (2, .int (iI (bI (f)))), (3, .int (iI (bI (decide (w 2 t ≠ -1))))), (4, .int (iI (z)))] [] := by
            intro fu
            induction fu with
            | zero => intro k w' z eph hw' qw hb41 hk3 hz hme; exact absurd hme (Nat.not_lt_zero _)
            | succ fu ih25 =>
              intro k w' z eph hw' qw hb41 hk3 hz hme
              have e7 : ∀ i, w' 7 i = w 7 i := fun i => qw 7 i (by decide) (by decide) (by decide)
              have e2 : w' 2 t = w 2 t := qw 2 t (by decide) (by decide) (by decide)
              have c7 : 1 ≤ k → 8 ≤ w' 7 (3 * t + z) ∧ w' 7 (3 * t + z) < t := fun h => by rw [e7]; exact tc _ (by omega) (by omega)
              refine z_iload C 61 4 dX7_layAhead_59 rfl rfl ?_
              refine z_if_lt C 100 64 dX7_layAhead_61 (by decide) ⟨by omega, by omega⟩ rfl (fun c26 => ?_) (fun c26 => ?_)
              · skip
                refine z_iload_n C 101 3 dX7_layAhead_100 rfl rfl ?_
                refine z_ifB_eq C 133 104 dX7_layAhead_101 (by decide) rfl (fun c27 => ?_) (fun c27 => ?_)
                · skip
                  have c27b : ¬ ((w 2 t ≠ -1)) := of_decide_eq_false c27
                  exact z_vret C dX7_layAhead_133 (Nat.le_of_ble_eq_true rfl) (Nat.le_of_ble_eq_true rfl) ⟨rfl, (congrArg (fun w' => mP θ am ar w' N) (by unfold lhW; rw [if_neg (by simp_all), ← eph, show k = 0 by omega]; rfl))⟩
                · skip
                  have c27b : ((w 2 t ≠ -1)) := of_decide_eq_true c27
                  refine z_iload_n C 105 2 dX7_layAhead_104 rfl rfl ?_
                  refine z_ifB_eq C 133 108 dX7_layAhead_105 (by decide) rfl (fun c28 => ?_) (fun c28 => ?_)
                  · skip
                    exact z_vret C dX7_layAhead_133 (Nat.le_of_ble_eq_true rfl) (Nat.le_of_ble_eq_true rfl) ⟨rfl, (congrArg (fun w' => mP θ am ar w' N) (by unfold lhW; rw [if_neg (by simp_all), ← eph, show k = 0 by omega]; rfl))⟩
                  · skip
                    refine z_aload_n C 109 0 dX7_layAhead_108 rfl rfl ?_
                    refine m_geta C hκ 112 40 (by decide) rfl q2035 rfl dX7_layAhead_109 rfl ?_
                    refine z_aload_n C 113 0 dX7_layAhead_112 rfl rfl ?_
                    refine m_geti C hκ 116 41 (by decide) rfl q2036 rfl dX7_layAhead_113 rfl ?_
                    refine z_aload_n C 117 0 dX7_layAhead_116 rfl rfl ?_
                    refine m_geta C hκ 120 2 (by decide) rfl q1997 rfl dX7_layAhead_117 rfl ?_
                    refine z_iload_n C 121 1 dX7_layAhead_120 rfl rfl ?_
                    refine m_iald (len := 60) C hκ hD 122 2 (by decide) rfl rfl (by omega) (by omega) dX7_layAhead_121 rfl ?_
                    obtain ⟨w11, ew11⟩ : ∃ wz, mset w' 40 (w' 41 0) (w' 2 (t)) = wz := ⟨_, rfl⟩
                    have hw11 : mWF w11 := ew11 ▸ hw'.set (hw'.r _ _ rfl) rfl
                    refine m_iast (len := 248) (w' := w11) C hκ hD 123 40 (by decide) rfl rfl (by omega) (by omega) dX7_layAhead_122 rfl ew11 ?_
                    have z29 : w11 41 0 = w' 41 0 := by rw [← ew11]; exact mset_k (by decide)
                    refine z_aload_n C 124 0 dX7_layAhead_123 rfl rfl ?_
                    refine z_dup C 125 dX7_layAhead_124 rfl rfl ?_
                    refine m_geti C hκ 128 41 (by decide) rfl q2036 rfl dX7_layAhead_125 rfl ?_
                    refine z_iconst C 129 dX7_layAhead_128 rfl ?_
                    refine z_iadd C 130 dX7_layAhead_129 rfl ?_
                    obtain ⟨w12, ew12⟩ : ∃ wz, mset w11 41 (0) ((w11 41 0) + (1)) = wz := ⟨_, rfl⟩
                    have hw12 : mWF w12 := ew12 ▸ hw11.set ⟨by omega, by omega⟩ rfl
                    refine m_puti (w' := w12) C hκ 133 41 (by decide) (by decide) rfl q2036 rfl rfl rfl rfl dX7_layAhead_130 rfl ew12 ?_
                    have ep2 : psW w' (w' 2 t) = w12 := by unfold psW; rw [← ew12, ← ew11, mset_k (show (41 : Nat) ≠ 40 by decide)]
                    exact z_vret C dX7_layAhead_133 (Nat.le_of_ble_eq_true rfl) (Nat.le_of_ble_eq_true rfl) ⟨rfl, (congrArg (fun w' => mP θ am ar w' N) (by unfold lhW; rw [if_pos (by simp_all), ← eph, show k = 0 by omega, ← ep2, e2]; rfl))⟩
              · skip
                refine z_aload_n C 65 0 dX7_layAhead_64 rfl rfl ?_
                refine m_geta C hκ 68 40 (by decide) rfl q2035 rfl dX7_layAhead_65 rfl ?_
                refine z_aload_n C 69 0 dX7_layAhead_68 rfl rfl ?_
                refine m_geti C hκ 72 41 (by decide) rfl q2036 rfl dX7_layAhead_69 rfl ?_
                refine z_aload_n C 73 0 dX7_layAhead_72 rfl rfl ?_
                refine m_geta C hκ 76 7 (by decide) rfl q2002 rfl dX7_layAhead_73 rfl ?_
                refine z_iconst C 77 dX7_layAhead_76 rfl ?_
                refine z_iload_n C 78 1 dX7_layAhead_77 rfl rfl ?_
                refine z_imul C 79 dX7_layAhead_78 rfl ?_
                refine z_iload C 81 4 dX7_layAhead_79 rfl rfl ?_
                refine z_iadd C 82 dX7_layAhead_81 rfl ?_
                refine m_iald (len := 180) C hκ hD 83 7 (by decide) rfl rfl (by omega) (by omega) dX7_layAhead_82 rfl ?_
                obtain ⟨w13, ew13⟩ : ∃ wz, mset w' 40 (w' 41 0) (w' 7 (((3) * (t)) + (z))) = wz := ⟨_, rfl⟩
                have hw13 : mWF w13 := ew13 ▸ hw'.set (hw'.r _ _ rfl) rfl
                refine m_iast (len := 248) (w' := w13) C hκ hD 84 40 (by decide) rfl rfl (by omega) (by omega) dX7_layAhead_83 rfl ew13 ?_
                have z30 : w13 41 0 = w' 41 0 := by rw [← ew13]; exact mset_k (by decide)
                refine z_aload_n C 85 0 dX7_layAhead_84 rfl rfl ?_
                refine z_dup C 86 dX7_layAhead_85 rfl rfl ?_
                refine m_geti C hκ 89 41 (by decide) rfl q2036 rfl dX7_layAhead_86 rfl ?_
                refine z_iconst C 90 dX7_layAhead_89 rfl ?_
                refine z_iadd C 91 dX7_layAhead_90 rfl ?_
                obtain ⟨w14, ew14⟩ : ∃ wz, mset w13 41 (0) ((w13 41 0) + (1)) = wz := ⟨_, rfl⟩
                have hw14 : mWF w14 := ew14 ▸ hw13.set ⟨by omega, by omega⟩ rfl
                refine m_puti (w' := w14) C hκ 94 41 (by decide) (by decide) rfl q2036 rfl rfl rfl rfl dX7_layAhead_91 rfl ew14 ?_
                refine z_iinc (lv' := [(0, .ref (am)), (1, .int (iI (t))), (2, .int (iI (bI (f)))), (3, .int (iI (bI (decide (w 2 t ≠ -1))))), (4, .int (iI ((z) + (-1))))]) C 97 4 [1, 2, 3, 4, 0] dX7_layAhead_94 rfl (by decide) rfl rfl ?_
                refine z_goto C 59 dX7_layAhead_97 (by decide) ?_
                have ep1 : psW w' (w' 7 (3 * t + z)) = w14 := by unfold psW; rw [← ew14, ← ew13, mset_k (show (41 : Nat) ≠ 40 by decide)]
                have e41 : w14 41 0 = w' 41 0 + 1 := by rw [← ep1]; exact psW_41
                refine z_as (lv' := [(0, .ref (am)), (1, .int (iI (t))), (2, .int (iI (bI (f)))), (3, .int (iI (bI (decide (w 2 t ≠ -1))))), (4, .int (iI (((z) + (-1)))))]) rfl rfl rfl ?_
                exact ih25 (k - 1) (w14) ((z) + (-1)) (by rw [← eph, ← ep1]; obtain ⟨k', rfl⟩ : ∃ k', k = k' + 1 := ⟨k - 1, by omega⟩; show phW _ t k' = phW (psW w' (w' 7 (3 * t + k'))) t k'; rw [hz, show (((k' + 1 : Nat) : Int) - 1) = k' by omega]) hw14 (ep1 ▸ psW_q qw) (by omega) (by omega) (by omega) (by omega)
          have ep0 : psW w (w 2 t) = w10 := by unfold psW; rw [← ew10, ← ew9, mset_k (show (41 : Nat) ≠ 40 by decide)]
          have eq0 : lh1 w t f = w10 := by unfold lh1; rw [if_pos (by simp_all)]; exact ep0
          have e41 : w10 41 0 = w 41 0 + 1 := by rw [← ep0]; exact psW_41
          have e6' : w10 6 t = w 6 t := by rw [← ep0]; exact psW_q sQ.refl 6 t (by decide) (by decide) (by decide)
          refine z_as (lv' := [(0, .ref (am)), (1, .int (iI (t))), (2, .int (iI (bI (f)))), (3, .int (iI (bI (decide (w 2 t ≠ -1))))), (4, .int (iI (((w10 6 (t)) - (1)))))]) rfl rfl rfl ?_
          exact L59_24 _ ((w 6 t).toNat) (w10) ((w10 6 (t)) - (1)) (by rw [eq0]) hw10 (ep0 ▸ psW_q sQ.refl) (by omega) (by omega) (by omega) (Nat.lt_succ_self _)
  refine z_aload_n C 1 0 dX7_layAhead_0 rfl rfl ?_
  refine m_geta C hκ 4 2 (by decide) rfl q1997 rfl dX7_layAhead_1 rfl ?_
  refine z_iload_n C 5 1 dX7_layAhead_4 rfl rfl ?_
  obtain ⟨f31a, f31b, f31c, f31d, f31e, f31f, f31g, f31h⟩ := hS.T (show 0 ≤ t by omega) (by omega)
  refine m_iald (len := 60) C hκ hD 6 2 (by decide) rfl rfl (by omega) (by omega) dX7_layAhead_5 rfl ?_
  refine z_iconst C 7 dX7_layAhead_6 rfl ?_
  refine z_icmp_eq C 14 10 dX7_layAhead_7 (by decide) (hw.r _ _ rfl) ⟨by decide, by decide⟩ rfl (fun c32 => ?_) (fun c32 => ?_)
  · skip
    refine z_iconst C 15 dX7_layAhead_14 rfl ?_
    refine z_istore_n (lv' := [(0, .ref (am)), (1, .int (iI (t))), (2, .int (iI (bI (f)))), (3, .int (iI (0)))]) C 16 [1, 2, 3, 0] dX7_layAhead_15 (by decide) rfl rfl ?_
    refine z_as (lv' := [(0, .ref (am)), (1, .int (iI (t))), (2, .int (iI (bI (f)))), (3, .int (iI (bI (decide (w 2 t ≠ -1)))))]) rfl (congrArg (fun z9 => ([(0, .ref (am)), (1, .int (iI (t))), (2, .int (iI (bI (f)))), (3, .int (iI (bI (z9))))] : List (Nat × Value))) (show (false) = (decide (w 2 t ≠ -1)) from by clear C hκ hκl hS hB hB1 hB2 hB3 hB4 hB5 hB6 hC hD hw ta tb tc td te tf tg th L16_1 f31a f31b f31c f31d f31e f31f f31g f31h; simp_all)) rfl ?_
    exact L16_1 _   (Nat.lt_succ_self _)
  · skip
    refine z_iconst C 11 dX7_layAhead_10 rfl ?_
    refine z_goto C 15 dX7_layAhead_11 (by decide) ?_
    refine z_istore_n (lv' := [(0, .ref (am)), (1, .int (iI (t))), (2, .int (iI (bI (f)))), (3, .int (iI (1)))]) C 16 [1, 2, 3, 0] dX7_layAhead_15 (by decide) rfl rfl ?_
    refine z_as (lv' := [(0, .ref (am)), (1, .int (iI (t))), (2, .int (iI (bI (f)))), (3, .int (iI (bI (decide (w 2 t ≠ -1)))))]) rfl (congrArg (fun z9 => ([(0, .ref (am)), (1, .int (iI (t))), (2, .int (iI (bI (f)))), (3, .int (iI (bI (z9))))] : List (Nat × Value))) (show (true) = (decide (w 2 t ≠ -1)) from by clear C hκ hκl hS hB hB1 hB2 hB3 hB4 hB5 hB6 hC hD hw ta tb tc td te tf tg th L16_1 f31a f31b f31c f31d f31e f31f f31g f31h; simp_all)) rfl ?_
    exact L16_1 _   (Nat.lt_succ_self _)
