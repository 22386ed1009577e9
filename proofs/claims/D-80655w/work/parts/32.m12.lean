/-! ===== the Model: searches ===== -/
theorem dfs_congr {p : Int → Bool} {ch : Int → List Int} {T : Int} (hch : ∀ t x : Int, 0 ≤ t → t < T → x ∈ ch t → 0 ≤ x ∧ x < T) : ∀ (f : Nat) (S : List Int) (V V' : Int → Bool), (∀ x ∈ S, 0 ≤ x ∧ x < T) → (∀ x, 0 ≤ x → x < T → V x = V' x) → dfs p ch f S V = dfs p ch f S V'
  | 0, _, _, _, _, _ => rfl
  | _ + 1, [], _, _, _, _ => rfl
  | f + 1, t :: S, V, V', hS, hV => by
    have ht := hS t (List.mem_cons_self ..)
    have hS' : ∀ x ∈ S, 0 ≤ x ∧ x < T := fun x hx => hS x (List.mem_cons_of_mem _ hx)
    simp only [dfs]
    rw [hV t ht.1 ht.2]
    split
    · exact dfs_congr hch f S V V' hS' hV
    · split
      · rfl
      · refine dfs_congr hch f _ _ _ (fun x hx => ?_) (fun x h0 h1 => by rw [hV x h0 h1])
        rcases List.mem_append.mp hx with hx | hx
        · exact hch t x ht.1 ht.2 hx
        · exact hS' x hx
def srch (w w' : mW) (p : Int → Bool) (ch : Int → List Int) (R : Int) (f : Nat) (S : List Int) : Prop :=
  stk w' S ∧ sQ w w' ∧ dfs p ch f S (fun x => mb w' 42 x) = R ∧ (∀ x ∈ S, 0 ≤ x ∧ x < w 0 0) ∧ S.length + 4 * unN (fun x => mb w' 42 x) ≤ 241 ∧ S.length + 5 * unN (fun x => mb w' 42 x) ≤ f
theorem unN_le (V : Int → Bool) : unN V ≤ 60 := by
  have : ∀ (p : Nat → Bool) (n : Nat), cntN p n ≤ n := fun p n => by
    induction n with
    | zero => simp [cntN]
    | succ n ih => simp only [cntN]; split <;> omega
  exact this _ _
theorem srch_0 {w : mW} (hS : mS w) {p : Int → Bool} {pf : Bool} {t : Int} (ht : 0 ≤ t ∧ t < w 0 0) : srch w (bgW w t) p (chL w pf) (dfs p (chL w pf) 301 [t] (fun _ => false)) 301 [t] := by
  have hu := unN_le (fun x => mb (bgW w t) 42 x)
  have hin : ∀ x ∈ [t], 0 ≤ x ∧ x < w 0 0 := fun x hx => by simp at hx; rw [hx]; exact ht
  refine ⟨stk_bg, bgW_q sQ.refl, ?_, hin, by simp; omega, by simp; omega⟩
  refine dfs_congr (T := w 0 0) (fun t x h0 h1 hx => by have := chL_in hS h0 h1 hx; omega) 301 _ _ _ hin ?_
  intro x h0 h1
  obtain ⟨n, rfl⟩ := Int.eq_ofNat_of_zero_le h0
  have := hS.B.2.1
  unfold mb bgW
  rw [mset_k (by decide), mset_k (by decide), clW_42 (by omega)]
  decide
theorem srch_end {w w' : mW} {p : Int → Bool} {ch : Int → List Int} {R : Int} {f : Nat} (h : srch w w' p ch R f []) : R = -1 := by
  obtain ⟨_, _, h, _⟩ := h
  rw [← h]
  cases f <;> rfl
def popW (w : mW) (t : Int) : mW := mset (mset w 41 0 (w 41 0 - 1)) 42 t 1
theorem popW_wf {w : mW} {t : Int} (hw : mWF w) (h : 1 ≤ w 41 0 ∧ w 41 0 ≤ 248) : mWF (popW w t) := (hw.set ⟨by omega, by omega⟩ rfl).setB (Or.inr rfl)
theorem popW_mb {w : mW} {t x : Int} : mb (popW w t) 42 x = (mb w 42 x || decide (x = t)) := by
  unfold popW
  by_cases e : x = t
  · subst e; have := mb_set (w := mset w 41 0 (w 41 0 - 1)) (k := 42) (i := x) (b := true); simp only [bI, if_true] at this; rw [this]; simp
  · rw [mb_i e, mb_k (by decide)]; simp [e]
theorem srch_top {w w' : mW} {p : Int → Bool} {ch : Int → List Int} {R t : Int} {f : Nat} {S : List Int} (h : srch w w' p ch R f (t :: S)) : w' 40 (w' 41 0 - 1) = t ∧ (0 ≤ t ∧ t < w 0 0) ∧ (1 ≤ w' 41 0 ∧ w' 41 0 ≤ 241) ∧ 1 ≤ f := by
  obtain ⟨h1, h2, h3, h4, h5, h6⟩ := h
  obtain ⟨a1, a2⟩ := stk_top h1
  simp at h5 h6
  exact ⟨a1, h4 t (List.mem_cons_self ..), by omega, by omega⟩
theorem srch_q {w w' : mW} {t : Int} (q : sQ w w') : sQ w (popW w' t) := (q.set (by omega)).set (by omega)
theorem srch_seen {w w' : mW} {p : Int → Bool} {ch : Int → List Int} {R t : Int} {f : Nat} {S : List Int} (h : srch w w' p ch R f (t :: S)) (hv : mb w' 42 t = true) : srch w (popW w' t) p ch R (f - 1) S := by
  have ht := srch_top h
  obtain ⟨h1, h2, h3, h4, h5, h6⟩ := h
  have e : (fun x => mb (popW w' t) 42 x) = fun x => mb w' 42 x := by
    funext x
    rw [popW_mb]
    by_cases e : x = t
    · subst e; rw [hv]; rfl
    · simp [e]
  refine ⟨stk_pop h1 (by unfold popW; rw [mset_k (by decide), mset_s]) (fun i => by unfold popW; rw [mset_k (by decide), mset_k (by decide)]), srch_q h2, ?_, fun x hx => h4 x (List.mem_cons_of_mem _ hx), ?_, ?_⟩
  · rw [e]
    obtain ⟨f', rfl⟩ : ∃ f', f = f' + 1 := ⟨f - 1, by omega⟩
    simp only [dfs, hv, if_true] at h3
    exact h3
  · rw [e]; simp at h5; omega
  · rw [e]; simp at h6; omega
theorem srch_hit {w w' : mW} {p : Int → Bool} {ch : Int → List Int} {R t : Int} {f : Nat} {S : List Int} (h : srch w w' p ch R f (t :: S)) (hv : mb w' 42 t = false) (hp : p t = true) : R = t := by
  have ht := srch_top h
  obtain ⟨h1, h2, h3, h4, h5, h6⟩ := h
  obtain ⟨f', rfl⟩ : ∃ f', f = f' + 1 := ⟨f - 1, by omega⟩
  simp only [dfs, hv, hp, if_true, Bool.false_eq_true, if_false] at h3
  exact h3.symm
theorem lhW_42 {w : mW} {t : Int} {f : Bool} {i : Int} : lhW w t f 42 i = w 42 i := by
  have hp : ∀ {w : mW} {v : Int}, psW w v 42 i = w 42 i := by intro w v; unfold psW; rw [mset_k (by decide), mset_k (by decide)]
  have hh : ∀ (k : Nat) {w : mW}, phW w t k 42 i = w 42 i := by
    intro k
    induction k with
    | zero => intro w; rfl
    | succ k ih => intro w; unfold phW; rw [ih, hp]
  have h1 : lh1 w t f 42 i = w 42 i := by unfold lh1; split; exact hp; rfl
  unfold lhW; split
  · rw [hp, hh, h1]
  · rw [hh, h1]
theorem srch_miss {w w' : mW} (hS : mS w) {p : Int → Bool} {pf : Bool} {R t : Int} {f : Nat} {S : List Int} (h : srch w w' p (chL w pf) R f (t :: S)) (hv : mb w' 42 t = false) (hp : p t = false) : srch w (lhW (popW w' t) t pf) p (chL w pf) R (f - 1) (chL w pf t ++ S) ∧ 0 ≤ popW w' t 41 0 ∧ popW w' t 41 0 + 5 ≤ 248 := by
  have ht := srch_top h
  obtain ⟨h1, h2, h3, h4, h5, h6⟩ := h
  have h60 := hS.B.2.1
  have e : (fun x => mb (lhW (popW w' t) t pf) 42 x) = fun x => (mb w' 42 x || decide (x = t)) := by
    funext x
    rw [← popW_mb]
    unfold mb
    rw [lhW_42]
  have hu := unN_set (V := fun x => mb w' 42 x) (t := t) (by omega) hv
  have hl := chL_len (f := pf) (hS.T ht.2.1.1 ht.2.1.2).2.1
  have hst := stk_pop (w' := popW w' t) h1 (by unfold popW; rw [mset_k (by decide), mset_s]) (fun i => by unfold popW; rw [mset_k (by decide), mset_k (by decide)])
  have hmany : popW w' t 41 0 = w' 41 0 - 1 := by unfold popW; rw [mset_k (by decide), mset_s]
  simp at h5 h6
  obtain ⟨a1, a2⟩ := stk_top h1
  refine ⟨⟨stk_lh (srch_q h2) hst, lhW_q (srch_q h2), ?_, ?_, ?_, ?_⟩, by omega, by omega⟩
  · rw [e]
    obtain ⟨f', rfl⟩ : ∃ f', f = f' + 1 := ⟨f - 1, by omega⟩
    simp only [dfs, hv, hp, Bool.false_eq_true, if_false] at h3
    exact h3
  · intro x hx
    rcases List.mem_append.mp hx with hx | hx
    · have := chL_in hS ht.2.1.1 ht.2.1.2 hx; omega
    · exact h4 x (List.mem_cons_of_mem _ hx)
  · rw [e]; simp only [List.length_append]; omega
  · rw [e]; simp only [List.length_append]; omega
theorem phW_wf {t : Int} : ∀ (k : Nat) {w : mW}, mWF w → 0 ≤ w 41 0 → w 41 0 + k ≤ 248 → mWF (phW w t k)
  | 0, _, h, _, _ => h
  | k + 1, w, h, h0, h1 => by
    unfold phW
    exact phW_wf k (psW_wf h (h.r _ _ rfl) ⟨by omega, by omega⟩) (by rw [psW_41]; omega) (by rw [psW_41]; omega)
theorem phW_41 {t : Int} : ∀ (k : Nat) {w : mW}, phW w t k 41 0 = w 41 0 + k
  | 0, _ => by simp [phW]
  | k + 1, w => by unfold phW; rw [phW_41 k, psW_41]; omega
theorem lhW_wf {w : mW} {t : Int} {f : Bool} (hw : mWF w) (h6 : w 6 t ≤ 3) (hm : 0 ≤ w 41 0 ∧ w 41 0 + 5 ≤ 248) : mWF (lhW w t f) := by
  have h1 : mWF (lh1 w t f) ∧ 0 ≤ lh1 w t f 41 0 ∧ lh1 w t f 41 0 ≤ w 41 0 + 1 := by
    unfold lh1; split
    · exact ⟨psW_wf hw (hw.r _ _ rfl) ⟨by omega, by omega⟩, by rw [psW_41]; omega, by rw [psW_41]; omega⟩
    · exact ⟨hw, by omega, by omega⟩
  have h2 := phW_wf (t := t) (w 6 t).toNat h1.1 h1.2.1 (by omega)
  unfold lhW; split
  · refine psW_wf h2 (hw.r _ _ rfl) ?_
    rw [phW_41]; omega
  · exact h2
theorem olI_q {w w' : mW} (q : sQ w w') {t m : Int} : olI w' t m = olI w t m := by
  have e : ∀ (k : Nat) (i : Int), k ≠ 40 → k ≠ 41 → k ≠ 42 → w' k i = w k i := q
  unfold olI likeB mb
  simp only [e 11 _ (by decide) (by decide) (by decide), e 16 _ (by decide) (by decide) (by decide), e 13 _ (by decide) (by decide) (by decide), e 14 _ (by decide) (by decide) (by decide), e 17 _ (by decide) (by decide) (by decide), e 18 _ (by decide) (by decide) (by decide), e 19 _ (by decide) (by decide) (by decide)]
theorem ofI_q {w w' : mW} (q : sQ w w') {t m : Int} : ofI w' t m = ofI w t m := by
  have e : ∀ (k : Nat) (i : Int), k ≠ 40 → k ≠ 41 → k ≠ 42 → w' k i = w k i := q
  unfold ofI mb
  simp only [e 11 _ (by decide) (by decide) (by decide), e 16 _ (by decide) (by decide) (by decide), e 13 _ (by decide) (by decide) (by decide), e 14 _ (by decide) (by decide) (by decide)]
theorem whoI_q {w w' : mW} (q : sQ w w') {m : Int} : whoI w' m = whoI w m := by unfold whoI; rw [q 15 m (by decide) (by decide) (by decide)]
theorem hasB_q {w w' : mW} (q : sQ w w') {m k : Int} : hasB w' m k = hasB w m k := by unfold hasB; rw [q 15 m (by decide) (by decide) (by decide)]
def fnP (w : mW) (t m y : Int) : Int → Bool := fun u => decide (olI w u m ≠ -1) && (decide (y = 2) || decide (whoI w (olI w u m) = 1)) && !(decide (w 1 u = 3) && hasB w (olI w u m) 4 && decide (u ≠ t))
def fnT (w : mW) (t m y : Int) : Int := dfs (fnP w t m y) (chL w true) 301 [t] (fun _ => false)
def fnI (w : mW) (t m y : Int) : Int := if y = 0 then olI w t m else if fnT w t m y = -1 then -1 else olI w (fnT w t m y) m
def ffP (w : mW) (n y : Int) : Int → Bool := fun u => decide (ofI w u n ≠ -1) && (decide (y = 2) || decide (whoI w (ofI w u n) = 1))
def ffT (w : mW) (t n y : Int) : Int := dfs (ffP w n y) (chL w (decide (y = 2))) 301 [t] (fun _ => false)
def ffI (w : mW) (t n y : Int) : Int := if !tyB w t || !decide (0 ≤ n ∧ n ≤ 19) || !decide (0 ≤ y ∧ y ≤ 2) then -2 else if y = 0 then ofI w t n else if ffT w t n y = -1 then -1 else ofI w (ffT w t n y) n
theorem fnI_r {w : mW} {t m y : Int} (h : 0 ≤ w 11 0) : -1 ≤ fnI w t m y ∧ fnI w t m y < w 11 0 := by
  unfold fnI
  split
  · exact olI_r h
  · split
    · omega
    · exact olI_r h
theorem ffI_r {w : mW} {t m y : Int} (h : 0 ≤ w 11 0) : -2 ≤ ffI w t m y ∧ ffI w t m y < w 11 0 := by
  unfold ffI
  split
  · omega
  · split
    · have := ofI_r (w := w) (t := t) (n := m) h; omega
    · split
      · omega
      · have := ofI_r (w := w) (t := ffT w t m y) (n := m) h; omega
def fmI (w : mW) (t m y : Int) : Int := if !tyB w t || !mtB w m || !decide (0 ≤ y ∧ y ≤ 2) then -2 else fnI w t m y

set_option maxRecDepth 100000 in
theorem k7_found {l : Launch} {θ : zTh} {N : zMap} {am : Nat} {ar : Nat → Nat} {w : mW} (hD : mDis am ar) (hw : mWF w) (t : Int) (m : Int) (y : Int) (r_t : inR t) (r_m : inR m) (r_y : inR y) (hS : mS w) (ht : 0 ≤ t ∧ t < w 0 0) (hm : 0 ≤ m ∧ m < w 11 0) : ZM θ l yX7_found cX7_found 6 (some .int) ⟨2, 0, 0, 48⟩ [.ref (am), .int (iI (t)), .int (iI (m)), .int (iI (y))] (mP θ am ar w N) (fun v Q => ∃ r w', v = some (.int (iI r)) ∧ Q = mP θ am ar w' N ∧ mWF w' ∧ inR r ∧ (r = fnI w t m y ∧ sQ w w')) := by
  refine z_start (own := RX7) (nm := "found") pnX7 rfl rfl (Nat.le_of_ble_eq_true rfl) ?_
  intro κ hκ hκl C
  change Z κ (mP θ am ar w N) 0 0 0 [(0, .ref (am)), (1, .int (iI (t))), (2, .int (iI (m))), (3, .int (iI (y)))] []
  have hB := hS.B
  obtain ⟨hB1, hB2, hB3, hB4, hB5, hB6⟩ := hS.B
  have hC := hS.C
  refine z_iload_n C 1 3 dX7_found_0 rfl rfl ?_
  refine z_if_ne C 11 4 dX7_found_1 (by decide) r_y rfl (fun c1 => ?_) (fun c1 => ?_)
  · skip
    refine z_aload_n C 12 0 dX7_found_11 rfl rfl ?_
    refine z_iload_n C 13 1 dX7_found_12 rfl rfl ?_
    refine z_callVF0 (n' := 0) (k' := 0) (As := [.int (iI (t))]) (rest := []) C hκ hκl 16 (k7_beginAt hD hw (t) r_t) dX7_found_13 q2288 q2290 qs56 q97 q2291 znX7_beginAt (Nat.le_of_ble_eq_true rfl) (Nat.le_of_ble_eq_true rfl) (Nat.le_of_ble_eq_true rfl) (Nat.le_of_ble_eq_true rfl) mrec rfl rfl (Nat.le_of_ble_eq_true rfl) rfl rfl rfl ?_
    obtain ⟨w1, ew1⟩ : ∃ wz, bgW w (t) = wz := ⟨_, rfl⟩
    rw [ew1]
    have hw1 : mWF w1 := ew1 ▸ (bgW_wf hw r_t)
    have L16_2 : ∀ (fu : Nat) (f : Nat) (S : List Int) (w' : mW) (hw' : mWF w') (hsr : srch w w' (fnP w t m y) (chL w true) (fnT w t m y) f S) (hme : f < fu), Z κ (mP θ am ar w' N) 0 0 16 [(0, .ref (am)), (1, .int (iI (t))), (2, .int (iI (m))), (3, .int (iI (y)))] [] := by
      intro fu
      induction fu with
      | zero => intro f S w' hw' hsr hme; exact absurd hme (Nat.not_lt_zero _)
      | succ fu ih3 =>
        intro f S w' hw' hsr hme
        have q41 := hsr.1.1
        have hS' := mS_q hsr.2.1 hS
        have e0 : w' 0 0 = w 0 0 := hsr.2.1 0 0 (by decide) (by decide) (by decide)
        have e11 : w' 11 0 = w 11 0 := hsr.2.1 11 0 (by decide) (by decide) (by decide)
        refine z_aload_n C 17 0 dX7_found_16 rfl rfl ?_
        refine m_geti C hκ 20 41 (by decide) rfl q2036 rfl dX7_found_17 rfl ?_
        refine z_if_le C 108 23 dX7_found_20 (by decide) (hw'.r _ _ rfl) rfl (fun c4 => ?_) (fun c4 => ?_)
        · skip
          refine z_iconst C 109 dX7_found_108 rfl ?_
          exact z_iret C dX7_found_109 rfl (Nat.le_of_ble_eq_true rfl) (Nat.le_of_ble_eq_true rfl) ⟨_, _, rfl, rfl, hw', ⟨by decide, by decide⟩, ⟨by unfold fnI; rw [if_neg (by omega), if_pos (srch_end (show srch w w' _ _ _ _ [] from by have : S = [] := (by cases S with | nil => rfl | cons a b => (simp at q41; omega)); rw [this] at hsr; exact hsr))], hsr.2.1⟩⟩
        · skip
          obtain ⟨t0, S', rfl⟩ : ∃ t0 S', S = t0 :: S' := by cases S with | nil => (simp at q41; omega) | cons a b => exact ⟨a, b, rfl⟩
          obtain ⟨ht40e, ht0, hmany, hf1⟩ := srch_top hsr
          have ht40 : 0 ≤ w' 40 (w' 41 0 - 1) ∧ w' 40 (w' 41 0 - 1) < 60 := by rw [ht40e]; omega
          refine z_aload_n C 24 0 dX7_found_23 rfl rfl ?_
          refine z_callVF (n' := 0) (k' := 0) (As := []) (rest := []) C hκ hκl 27 (k7_nextType hD hw'  (by omega) ht40) dX7_found_24 q2292 q2294 qs57 q97 q2295 znX7_nextType (Nat.le_of_ble_eq_true rfl) (Nat.le_of_ble_eq_true rfl) (Nat.le_of_ble_eq_true rfl) (Nat.le_of_ble_eq_true rfl) mrec rfl rfl (Nat.le_of_ble_eq_true rfl) rfl rfl rfl ?_
          obtain ⟨w2, ew2⟩ : ∃ wz, mset (mset w' 41 0 (w' 41 0 - 1)) 42 (w' 40 (w' 41 0 - 1)) 1 = wz := ⟨_, rfl⟩
          rw [ew2]
          have hw2 : mWF w2 := ew2 ▸ ((hw'.set ⟨by omega, by omega⟩ rfl).setB (Or.inr rfl))
          rw [ht40e] at ew2
          have epop : popW w' t0 = w2 := ew2
          have q1 : sQ w w2 := epop ▸ srch_q hsr.2.1
          have hS1 := mS_q q1 hS
          have e01 : w2 0 0 = w 0 0 := q1 0 0 (by decide) (by decide) (by decide)
          have e111 : w2 11 0 = w 11 0 := q1 11 0 (by decide) (by decide) (by decide)
          obtain ⟨tt, ett⟩ : ∃ tt : Int, (if mb w' 42 (w' 40 (w' 41 0 - 1)) then -1 else w' 40 (w' 41 0 - 1)) = tt := ⟨_, rfl⟩
          have htt := ett
          rw [ht40e] at htt
          have hcase : (mb w' 42 t0 = true ∧ tt = -1) ∨ (mb w' 42 t0 = false ∧ tt = t0) := by cases hb : mb w' 42 t0 <;> rw [hb] at htt <;> simp at htt <;> simp [htt]
          refine z_as (st' := [.int (iI tt)]) rfl rfl (congrArg (fun z => [Value.int (iI z)]) ett) ?_
          refine z_istore (lv' := [(0, .ref (am)), (1, .int (iI (t))), (2, .int (iI (m))), (3, .int (iI (y))), (4, .int (iI (tt)))]) C 29 [1, 2, 3, 4, 0] dX7_found_27 (by decide) rfl rfl ?_
          refine z_iload C 31 4 dX7_found_29 rfl rfl ?_
          refine z_iconst C 32 dX7_found_31 rfl ?_
          refine z_icmp_ne C 38 35 dX7_found_32 (by decide) ⟨by omega, by omega⟩ ⟨by decide, by decide⟩ rfl (fun c5 => ?_) (fun c5 => ?_)
          · skip
            refine z_aload_n C 39 0 dX7_found_38 rfl rfl ?_
            refine z_iload C 41 4 dX7_found_39 rfl rfl ?_
            refine z_iload_n C 42 2 dX7_found_41 rfl rfl ?_
            refine z_callVF (n' := 0) (k' := 0) (As := [.int (iI (tt)), .int (iI (m))]) (rest := []) C hκ hκl 45 (k7_ownLike hD hw2 (tt) (m) ⟨by omega, by omega⟩ r_m hS1 (by omega)) dX7_found_42 q2312 q2314 qs61 q97 q2315 znX7_ownLike (Nat.le_of_ble_eq_true rfl) (Nat.le_of_ble_eq_true rfl) (Nat.le_of_ble_eq_true rfl) (Nat.le_of_ble_eq_true rfl) mrec rfl rfl (Nat.le_of_ble_eq_true rfl) rfl rfl rfl ?_
            have h6 := olI_r (w := w2) (t := tt) (m := m) (by omega)
            refine z_istore (lv' := [(0, .ref (am)), (1, .int (iI (t))), (2, .int (iI (m))), (3, .int (iI (y))), (4, .int (iI (tt))), (5, .int (iI (olI w2 (tt) (m))))]) C 47 [1, 2, 3, 4, 5, 0] dX7_found_45 (by decide) rfl rfl ?_
            have ol1 : olI w2 tt m = olI w tt m := olI_q q1
            have wh1 : ∀ x, whoI w2 x = whoI w x := fun x => whoI_q q1
            have ha1 : ∀ x k, hasB w2 x k = hasB w x k := fun x k => hasB_q q1
            have so1 : ∀ x, w2 1 x = w 1 x := fun x => q1 1 x (by decide) (by decide) (by decide)
            refine z_iload C 49 5 dX7_found_47 rfl rfl ?_
            refine z_iconst C 50 dX7_found_49 rfl ?_
            refine z_icmp_eq C 98 53 dX7_found_50 (by decide) ⟨by omega, by omega⟩ ⟨by decide, by decide⟩ rfl (fun c7 => ?_) (fun c7 => ?_)
            · skip
              have hv : mb w' 42 t0 = false := by rcases hcase with h | h; omega; exact h.1
              have htt0 : tt = t0 := by rcases hcase with h | h; omega; exact h.2
              have hpf : fnP w t m y t0 = false := by clear C hκ hκl; rw [← htt0]; unfold fnP; rw [← ol1, ← wh1, ← ha1, ← so1]; first | (simp_all; done) | grind
              obtain ⟨hms, hm41a, hm41b⟩ := srch_miss (pf := true) hS hsr hv hpf
              rw [epop] at hms hm41a hm41b
              have hm41 : 0 ≤ w2 41 0 ∧ w2 41 0 + 5 ≤ 248 := ⟨hm41a, hm41b⟩
              have ht61 : w2 6 tt ≤ 3 := (hS1.T (show 0 ≤ tt by omega) (by omega)).2.1.2
              refine z_aload_n C 99 0 dX7_found_98 rfl rfl ?_
              refine z_iload C 101 4 dX7_found_99 rfl rfl ?_
              refine z_iconst C 102 dX7_found_101 rfl ?_
              refine z_callVF0 (n' := 0) (k' := 0) (As := [.int (iI (tt)), .int (iI (1))]) (rest := []) C hκ hκl 105 (k7_layAhead hD hw2 (tt) (true) ⟨by omega, by omega⟩ hS1 (by omega) hm41) dX7_found_102 q2296 q2298 qs58 q97 q2299 znX7_layAhead (Nat.le_of_ble_eq_true rfl) (Nat.le_of_ble_eq_true rfl) (Nat.le_of_ble_eq_true rfl) (Nat.le_of_ble_eq_true rfl) mrec rfl rfl (Nat.le_of_ble_eq_true rfl) rfl rfl rfl ?_
              obtain ⟨w3, ew3⟩ : ∃ wz, lhW w2 (tt) (true) = wz := ⟨_, rfl⟩
              rw [ew3]
              have hw3 : mWF w3 := ew3 ▸ (lhW_wf hw2 ht61 hm41)
              have hms9 := hms
              rw [← htt0] at hms9
              rw [ew3] at hms9
              rw [htt0] at hms9
              refine z_goto C 16 dX7_found_105 (by decide) ?_
              refine z_sub [0, 1, 2, 3] (lv' := [(0, .ref (am)), (1, .int (iI (t))), (2, .int (iI (m))), (3, .int (iI (y)))]) rfl ?_
              refine z_as (lv' := [(0, .ref (am)), (1, .int (iI (t))), (2, .int (iI (m))), (3, .int (iI (y)))]) rfl rfl rfl ?_
              exact ih3 (f - 1) (chL w true t0 ++ S') (w3) hw3 hms9 (by omega)
            · skip
              refine z_iload_n C 54 3 dX7_found_53 rfl rfl ?_
              refine z_iconst C 55 dX7_found_54 rfl ?_
              refine z_icmp_eq C 68 58 dX7_found_55 (by decide) r_y ⟨by decide, by decide⟩ rfl (fun c8 => ?_) (fun c8 => ?_)
              · skip
                refine z_aload_n C 69 0 dX7_found_68 rfl rfl ?_
                refine m_geta C hκ 72 1 (by decide) rfl q1996 rfl dX7_found_69 rfl ?_
                refine z_iload C 74 4 dX7_found_72 rfl rfl ?_
                obtain ⟨f9a, f9b, f9c, f9d, f9e, f9f, f9g, f9h⟩ := hS1.T (show 0 ≤ tt by omega) (by omega)
                refine m_iald (len := 60) C hκ hD 75 1 (by decide) rfl rfl (by omega) (by omega) dX7_found_74 rfl ?_
                refine z_iconst C 76 dX7_found_75 rfl ?_
                refine z_icmp_ne C 95 79 dX7_found_76 (by decide) (hw2.r _ _ rfl) ⟨by decide, by decide⟩ rfl (fun c10 => ?_) (fun c10 => ?_)
                · skip
                  refine z_iload C 97 5 dX7_found_95 rfl rfl ?_
                  exact z_iret C dX7_found_97 rfl (Nat.le_of_ble_eq_true rfl) (Nat.le_of_ble_eq_true rfl) ⟨_, _, rfl, rfl, hw2, ⟨by omega, by omega⟩, ⟨by have hv : mb w' 42 t0 = false := (by rcases hcase with h | h; omega; exact h.1); have htt0 : tt = t0 := (by rcases hcase with h | h; omega; exact h.2); have hp : fnP w t m y t0 = true := (by clear C hκ hκl; rw [← htt0]; unfold fnP; rw [← ol1, ← wh1, ← ha1, ← so1]; first | (simp_all; done) | grind); have hR := srch_hit hsr hv hp; unfold fnI; rw [if_neg (by omega), if_neg (by omega), hR, ← htt0]; exact ol1, q1⟩⟩
                · skip
                  refine z_aload_n C 80 0 dX7_found_79 rfl rfl ?_
                  refine z_iload C 82 5 dX7_found_80 rfl rfl ?_
                  refine z_iconst C 83 dX7_found_82 rfl ?_
                  refine z_callVF (n' := 0) (k' := 0) (As := [.int (iI (olI w2 (tt) (m))), .int (iI (4))]) (rest := []) C hκ hκl 86 (k7_has hD hw2 (olI w2 (tt) (m)) (4) ⟨by omega, by omega⟩ ⟨by decide, by decide⟩ (by omega)) dX7_found_83 q2271 q2273 qs53 q97 q2274 znX7_has (Nat.le_of_ble_eq_true rfl) (Nat.le_of_ble_eq_true rfl) (Nat.le_of_ble_eq_true rfl) (Nat.le_of_ble_eq_true rfl) mrec rfl rfl (Nat.le_of_ble_eq_true rfl) rfl rfl rfl ?_
                  refine z_ifB_eq C 95 89 dX7_found_86 (by decide) rfl (fun c11 => ?_) (fun c11 => ?_)
                  · skip
                    refine z_iload C 97 5 dX7_found_95 rfl rfl ?_
                    exact z_iret C dX7_found_97 rfl (Nat.le_of_ble_eq_true rfl) (Nat.le_of_ble_eq_true rfl) ⟨_, _, rfl, rfl, hw2, ⟨by omega, by omega⟩, ⟨by have hv : mb w' 42 t0 = false := (by rcases hcase with h | h; omega; exact h.1); have htt0 : tt = t0 := (by rcases hcase with h | h; omega; exact h.2); have hp : fnP w t m y t0 = true := (by clear C hκ hκl; rw [← htt0]; unfold fnP; rw [← ol1, ← wh1, ← ha1, ← so1]; first | (simp_all; done) | grind); have hR := srch_hit hsr hv hp; unfold fnI; rw [if_neg (by omega), if_neg (by omega), hR, ← htt0]; exact ol1, q1⟩⟩
                  · skip
                    refine z_iload C 91 4 dX7_found_89 rfl rfl ?_
                    refine z_iload_n C 92 1 dX7_found_91 rfl rfl ?_
                    refine z_icmp_ne C 98 95 dX7_found_92 (by decide) ⟨by omega, by omega⟩ r_t rfl (fun c12 => ?_) (fun c12 => ?_)
                    · skip
                      have hv : mb w' 42 t0 = false := by rcases hcase with h | h; omega; exact h.1
                      have htt0 : tt = t0 := by rcases hcase with h | h; omega; exact h.2
                      have hpf : fnP w t m y t0 = false := by clear C hκ hκl; rw [← htt0]; unfold fnP; rw [← ol1, ← wh1, ← ha1, ← so1]; first | (simp_all; done) | grind
                      obtain ⟨hms, hm41a, hm41b⟩ := srch_miss (pf := true) hS hsr hv hpf
                      rw [epop] at hms hm41a hm41b
                      have hm41 : 0 ≤ w2 41 0 ∧ w2 41 0 + 5 ≤ 248 := ⟨hm41a, hm41b⟩
                      have ht61 : w2 6 tt ≤ 3 := (hS1.T (show 0 ≤ tt by omega) (by omega)).2.1.2
                      refine z_aload_n C 99 0 dX7_found_98 rfl rfl ?_
                      refine z_iload C 101 4 dX7_found_99 rfl rfl ?_
                      refine z_iconst C 102 dX7_found_101 rfl ?_
                      refine z_callVF0 (n' := 0) (k' := 0) (As := [.int (iI (tt)), .int (iI (1))]) (rest := []) C hκ hκl 105 (k7_layAhead hD hw2 (tt) (true) ⟨by omega, by omega⟩ hS1 (by omega) hm41) dX7_found_102 q2296 q2298 qs58 q97 q2299 znX7_layAhead (Nat.le_of_ble_eq_true rfl) (Nat.le_of_ble_eq_true rfl) (Nat.le_of_ble_eq_true rfl) (Nat.le_of_ble_eq_true rfl) mrec rfl rfl (Nat.le_of_ble_eq_true rfl) rfl rfl rfl ?_
                      obtain ⟨w4, ew4⟩ : ∃ wz, lhW w2 (tt) (true) = wz := ⟨_, rfl⟩
                      rw [ew4]
                      have hw4 : mWF w4 := ew4 ▸ (lhW_wf hw2 ht61 hm41)
                      have hms9 := hms
                      rw [← htt0] at hms9
                      rw [ew4] at hms9
                      rw [htt0] at hms9
                      refine z_goto C 16 dX7_found_105 (by decide) ?_
                      refine z_sub [0, 1, 2, 3] (lv' := [(0, .ref (am)), (1, .int (iI (t))), (2, .int (iI (m))), (3, .int (iI (y)))]) rfl ?_
                      refine z_as (lv' := [(0, .ref (am)), (1, .int (iI (t))), (2, .int (iI (m))), (3, .int (iI (y)))]) rfl rfl rfl ?_
                      exact ih3 (f - 1) (chL w true t0 ++ S') (w4) hw4 hms9 (by omega)
                    · skip
                      refine z_iload C 97 5 dX7_found_95 rfl rfl ?_
                      exact z_iret C dX7_found_97 rfl (Nat.le_of_ble_eq_true rfl) (Nat.le_of_ble_eq_true rfl) ⟨_, _, rfl, rfl, hw2, ⟨by omega, by omega⟩, ⟨by have hv : mb w' 42 t0 = false := (by rcases hcase with h | h; omega; exact h.1); have htt0 : tt = t0 := (by rcases hcase with h | h; omega; exact h.2); have hp : fnP w t m y t0 = true := (by clear C hκ hκl; rw [← htt0]; unfold fnP; rw [← ol1, ← wh1, ← ha1, ← so1]; first | (simp_all; done) | grind); have hR := srch_hit hsr hv hp; unfold fnI; rw [if_neg (by omega), if_neg (by omega), hR, ← htt0]; exact ol1, q1⟩⟩
              · skip
                refine z_aload_n C 59 0 dX7_found_58 rfl rfl ?_
                refine z_iload C 61 5 dX7_found_59 rfl rfl ?_
                refine z_callVF (n' := 0) (k' := 0) (As := [.int (iI (olI w2 (tt) (m)))]) (rest := []) C hκ hκl 64 (k7_who hD hw2 (olI w2 (tt) (m)) ⟨by omega, by omega⟩ (by omega)) dX7_found_61 q2279 q2281 qs55 q97 q2282 znX7_who (Nat.le_of_ble_eq_true rfl) (Nat.le_of_ble_eq_true rfl) (Nat.le_of_ble_eq_true rfl) (Nat.le_of_ble_eq_true rfl) mrec rfl rfl (Nat.le_of_ble_eq_true rfl) rfl rfl rfl ?_
                refine z_iconst C 65 dX7_found_64 rfl ?_
                refine z_icmp_ne C 98 68 dX7_found_65 (by decide) (inR_zand _ _) ⟨by decide, by decide⟩ rfl (fun c13 => ?_) (fun c13 => ?_)
                · skip
                  have hv : mb w' 42 t0 = false := by rcases hcase with h | h; omega; exact h.1
                  have htt0 : tt = t0 := by rcases hcase with h | h; omega; exact h.2
                  have hpf : fnP w t m y t0 = false := by clear C hκ hκl; rw [← htt0]; unfold fnP; rw [← ol1, ← wh1, ← ha1, ← so1]; first | (simp_all; done) | grind
                  obtain ⟨hms, hm41a, hm41b⟩ := srch_miss (pf := true) hS hsr hv hpf
                  rw [epop] at hms hm41a hm41b
                  have hm41 : 0 ≤ w2 41 0 ∧ w2 41 0 + 5 ≤ 248 := ⟨hm41a, hm41b⟩
                  have ht61 : w2 6 tt ≤ 3 := (hS1.T (show 0 ≤ tt by omega) (by omega)).2.1.2
                  refine z_aload_n C 99 0 dX7_found_98 rfl rfl ?_
                  refine z_iload C 101 4 dX7_found_99 rfl rfl ?_
                  refine z_iconst C 102 dX7_found_101 rfl ?_
                  refine z_callVF0 (n' := 0) (k' := 0) (As := [.int (iI (tt)), .int (iI (1))]) (rest := []) C hκ hκl 105 (k7_layAhead hD hw2 (tt) (true) ⟨by omega, by omega⟩ hS1 (by omega) hm41) dX7_found_102 q2296 q2298 qs58 q97 q2299 znX7_layAhead (Nat.le_of_ble_eq_true rfl) (Nat.le_of_ble_eq_true rfl) (Nat.le_of_ble_eq_true rfl) (Nat.le_of_ble_eq_true rfl) mrec rfl rfl (Nat.le_of_ble_eq_true rfl) rfl rfl rfl ?_
                  obtain ⟨w5, ew5⟩ : ∃ wz, lhW w2 (tt) (true) = wz := ⟨_, rfl⟩
                  rw [ew5]
                  have hw5 : mWF w5 := ew5 ▸ (lhW_wf hw2 ht61 hm41)
                  have hms9 := hms
                  rw [← htt0] at hms9
                  rw [ew5] at hms9
                  rw [htt0] at hms9
                  refine z_goto C 16 dX7_found_105 (by decide) ?_
                  refine z_sub [0, 1, 2, 3] (lv' := [(0, .ref (am)), (1, .int (iI (t))), (2, .int (iI (m))), (3, .int (iI (y)))]) rfl ?_
                  refine z_as (lv' := [(0, .ref (am)), (1, .int (iI (t))), (2, .int (iI (m))), (3, .int (iI (y)))]) rfl rfl rfl ?_
                  exact ih3 (f - 1) (chL w true t0 ++ S') (w5) hw5 hms9 (by omega)
                · skip
                  refine z_aload_n C 69 0 dX7_found_68 rfl rfl ?_
                  refine m_geta C hκ 72 1 (by decide) rfl q1996 rfl dX7_found_69 rfl ?_
                  refine z_iload C 74 4 dX7_found_72 rfl rfl ?_
                  obtain ⟨f14a, f14b, f14c, f14d, f14e, f14f, f14g, f14h⟩ := hS1.T (show 0 ≤ tt by omega) (by omega)
                  refine m_iald (len := 60) C hκ hD 75 1 (by decide) rfl rfl (by omega) (by omega) dX7_found_74 rfl ?_
                  refine z_iconst C 76 dX7_found_75 rfl ?_
                  refine z_icmp_ne C 95 79 dX7_found_76 (by decide) (hw2.r _ _ rfl) ⟨by decide, by decide⟩ rfl (fun c15 => ?_) (fun c15 => ?_)
                  · skip
                    refine z_iload C 97 5 dX7_found_95 rfl rfl ?_
                    exact z_iret C dX7_found_97 rfl (Nat.le_of_ble_eq_true rfl) (Nat.le_of_ble_eq_true rfl) ⟨_, _, rfl, rfl, hw2, ⟨by omega, by omega⟩, ⟨by have hv : mb w' 42 t0 = false := (by rcases hcase with h | h; omega; exact h.1); have htt0 : tt = t0 := (by rcases hcase with h | h; omega; exact h.2); have hp : fnP w t m y t0 = true := (by clear C hκ hκl; rw [← htt0]; unfold fnP; rw [← ol1, ← wh1, ← ha1, ← so1]; first | (simp_all; done) | grind); have hR := srch_hit hsr hv hp; unfold fnI; rw [if_neg (by omega), if_neg (by omega), hR, ← htt0]; exact ol1, q1⟩⟩
                  · skip
                    refine z_aload_n C 80 0 dX7_found_79 rfl rfl ?_
                    refine z_iload C 82 5 dX7_found_80 rfl rfl ?_
                    refine z_iconst C 83 dX7_found_82 rfl ?_
                    refine z_callVF (n' := 0) (k' := 0) (As := [.int (iI (olI w2 (tt) (m))), .int (iI (4))]) (rest := []) C hκ hκl 86 (k7_has hD hw2 (olI w2 (tt) (m)) (4) ⟨by omega, by omega⟩ ⟨by decide, by decide⟩ (by omega)) dX7_found_83 q2271 q2273 qs53 q97 q2274 znX7_has (Nat.le_of_ble_eq_true rfl) (Nat.le_of_ble_eq_true rfl) (Nat.le_of_ble_eq_true rfl) (Nat.le_of_ble_eq_true rfl) mrec rfl rfl (Nat.le_of_ble_eq_true rfl) rfl rfl rfl ?_
                    refine z_ifB_eq C 95 89 dX7_found_86 (by decide) rfl (fun c16 => ?_) (fun c16 => ?_)
                    · skip
                      refine z_iload C 97 5 dX7_found_95 rfl rfl ?_
                      exact z_iret C dX7_found_97 rfl (Nat.le_of_ble_eq_true rfl) (Nat.le_of_ble_eq_true rfl) ⟨_, _, rfl, rfl, hw2, ⟨by omega, by omega⟩, ⟨by have hv : mb w' 42 t0 = false := (by rcases hcase with h | h; omega; exact h.1); have htt0 : tt = t0 := (by rcases hcase with h | h; omega; exact h.2); have hp : fnP w t m y t0 = true := (by clear C hκ hκl; rw [← htt0]; unfold fnP; rw [← ol1, ← wh1, ← ha1, ← so1]; first | (simp_all; done) | grind); have hR := srch_hit hsr hv hp; unfold fnI; rw [if_neg (by omega), if_neg (by omega), hR, ← htt0]; exact ol1, q1⟩⟩
                    · skip
                      refine z_iload C 91 4 dX7_found_89 rfl rfl ?_
                      refine z_iload_n C 92 1 dX7_found_91 rfl rfl ?_
                      refine z_icmp_ne C 98 95 dX7_found_92 (by decide) ⟨by omega, by omega⟩ r_t rfl (fun c17 => ?_) (fun c17 => ?_)
                      · skip
                        have hv : mb w' 42 t0 = false := by rcases hcase with h | h; omega; exact h.1
                        have htt0 : tt = t0 := by rcases hcase with h | h; omega; exact h.2
                        have hpf : fnP w t m y t0 = false := by clear C hκ hκl; rw [← htt0]; unfold fnP; rw [← ol1, ← wh1, ← ha1, ← so1]; first | (simp_all; done) | grind
                        obtain ⟨hms, hm41a, hm41b⟩ := srch_miss (pf := true) hS hsr hv hpf
                        rw [epop] at hms hm41a hm41b
                        have hm41 : 0 ≤ w2 41 0 ∧ w2 41 0 + 5 ≤ 248 := ⟨hm41a, hm41b⟩
                        have ht61 : w2 6 tt ≤ 3 := (hS1.T (show 0 ≤ tt by omega) (by omega)).2.1.2
                        refine z_aload_n C 99 0 dX7_found_98 rfl rfl ?_
                        refine z_iload C 101 4 dX7_found_99 rfl rfl ?_
                        refine z_iconst C 102 dX7_found_101 rfl ?_
                        refine z_callVF0 (n' := 0) (k' := 0) (As := [.int (iI (tt)), .int (iI (1))]) (rest := []) C hκ hκl 105 (k7_layAhead hD hw2 (tt) (true) ⟨by omega, by omega⟩ hS1 (by omega) hm41) dX7_found_102 q2296 q2298 qs58 q97 q2299 znX7_layAhead (Nat.le_of_ble_eq_true rfl) (Nat.le_of_ble_eq_true rfl) (Nat.le_of_ble_eq_true rfl) (Nat.le_of_ble_eq_true rfl) mrec rfl rfl (Nat.le_of_ble_eq_true rfl) rfl rfl rfl ?_
                        obtain ⟨w6, ew6⟩ : ∃ wz, lhW w2 (tt) (true) = wz := ⟨_, rfl⟩
                        rw [ew6]
                        have hw6 : mWF w6 := ew6 ▸ (lhW_wf hw2 ht61 hm41)
                        have hms9 := hms
                        rw [← htt0] at hms9
                        rw [ew6] at hms9
                        rw [htt0] at hms9
                        refine z_goto C 16 dX7_found_105 (by decide) ?_
                        refine z_sub [0, 1, 2, 3] (lv' := [(0, .ref (am)), (1, .int (iI (t))), (2, .int (iI (m))), (3, .int (iI (y)))]) rfl ?_
                        refine z_as (lv' := [(0, .ref (am)), (1, .int (iI (t))), (2, .int (iI (m))), (3, .int (iI (y)))]) rfl rfl rfl ?_
                        exact ih3 (f - 1) (chL w true t0 ++ S') (w6) hw6 hms9 (by omega)
                      · skip
                        refine z_iload C 97 5 dX7_found_95 rfl rfl ?_
                        exact z_iret C dX7_found_97 rfl (Nat.le_of_ble_eq_true rfl) (Nat.le_of_ble_eq_true rfl) ⟨_, _, rfl, rfl, hw2, ⟨by omega, by omega⟩, ⟨by have hv : mb w' 42 t0 = false := (by rcases hcase with h | h; omega; exact h.1); have htt0 : tt = t0 := (by rcases hcase with h | h; omega; exact h.2); have hp : fnP w t m y t0 = true := (by clear C hκ hκl; rw [← htt0]; unfold fnP; rw [← ol1, ← wh1, ← ha1, ← so1]; first | (simp_all; done) | grind); have hR := srch_hit hsr hv hp; unfold fnI; rw [if_neg (by omega), if_neg (by omega), hR, ← htt0]; exact ol1, q1⟩⟩
          · skip
            refine z_goto C 16 dX7_found_35 (by decide) ?_
            refine z_sub [0, 1, 2, 3] (lv' := [(0, .ref (am)), (1, .int (iI (t))), (2, .int (iI (m))), (3, .int (iI (y)))]) rfl ?_
            refine z_as (lv' := [(0, .ref (am)), (1, .int (iI (t))), (2, .int (iI (m))), (3, .int (iI (y)))]) rfl rfl rfl ?_
            exact ih3 (f - 1) (S') (w2) hw2 (epop ▸ srch_seen hsr (by rcases hcase with h | h; exact h.1; omega)) (by omega)
    refine z_as (lv' := [(0, .ref (am)), (1, .int (iI (t))), (2, .int (iI (m))), (3, .int (iI (y)))]) rfl rfl rfl ?_
    exact L16_2 _ (301) ([t]) (w1) hw1 (ew1 ▸ srch_0 hS ht) (Nat.lt_succ_self _)
  · skip
    refine z_aload_n C 5 0 dX7_found_4 rfl rfl ?_
    refine z_iload_n C 6 1 dX7_found_5 rfl rfl ?_
    refine z_iload_n C 7 2 dX7_found_6 rfl rfl ?_
    refine z_callVF (n' := 0) (k' := 0) (As := [.int (iI (t)), .int (iI (m))]) (rest := []) C hκ hκl 10 (k7_ownLike hD hw (t) (m) r_t r_m hS (by omega)) dX7_found_7 q2312 q2314 qs61 q97 q2315 znX7_ownLike (Nat.le_of_ble_eq_true rfl) (Nat.le_of_ble_eq_true rfl) (Nat.le_of_ble_eq_true rfl) (Nat.le_of_ble_eq_true rfl) mrec rfl rfl (Nat.le_of_ble_eq_true rfl) rfl rfl rfl ?_
    have h18 := olI_r (w := w) (t := t) (m := m) (by omega)
    exact z_iret C dX7_found_10 rfl (Nat.le_of_ble_eq_true rfl) (Nat.le_of_ble_eq_true rfl) ⟨_, _, rfl, rfl, hw, ⟨by omega, by omega⟩, ⟨by unfold fnI; rw [if_pos (by omega)], sQ.refl⟩⟩
set_option maxRecDepth 100000 in
theorem k7_findField {l : Launch} {θ : zTh} {N : zMap} {am : Nat} {ar : Nat → Nat} {w : mW} (hD : mDis am ar) (hw : mWF w) (t : Int) (n : Int) (y : Int) (r_t : inR t) (r_n : inR n) (r_y : inR y) (hS : mS w)  : ZM θ l yX7_findField cX7_findField 6 (some .int) ⟨2, 0, 0, 46⟩ [.ref (am), .int (iI (t)), .int (iI (n)), .int (iI (y))] (mP θ am ar w N) (fun v Q => ∃ r w', v = some (.int (iI r)) ∧ Q = mP θ am ar w' N ∧ mWF w' ∧ inR r ∧ (r = ffI w t n y ∧ sQ w w')) := by
  refine z_start (own := RX7) (nm := "findField") pnX7 rfl rfl (Nat.le_of_ble_eq_true rfl) ?_
  intro κ hκ hκl C
  change Z κ (mP θ am ar w N) 0 0 0 [(0, .ref (am)), (1, .int (iI (t))), (2, .int (iI (n))), (3, .int (iI (y)))] []
  have hB := hS.B
  obtain ⟨hB1, hB2, hB3, hB4, hB5, hB6⟩ := hS.B
  have hC := hS.C
  refine z_aload_n C 1 0 dX7_findField_0 rfl rfl ?_
  refine z_iload_n C 2 1 dX7_findField_1 rfl rfl ?_
  refine z_callVF (n' := 0) (k' := 0) (As := [.int (iI (t))]) (rest := []) C hκ hκl 5 (k7_isType hD hw (t) r_t hB) dX7_findField_2 q2160 q2162 qs40 q97 q2163 znX7_isType (Nat.le_of_ble_eq_true rfl) (Nat.le_of_ble_eq_true rfl) (Nat.le_of_ble_eq_true rfl) (Nat.le_of_ble_eq_true rfl) mrec rfl rfl (Nat.le_of_ble_eq_true rfl) rfl rfl rfl ?_
  refine z_ifB_eq C 32 8 dX7_findField_5 (by decide) rfl (fun c1 => ?_) (fun c1 => ?_)
  · skip
    have c1b : ¬ (0 ≤ (t) ∧ (t) < w 0 0) := of_decide_eq_false c1
    refine z_bipush C 34 dX7_findField_32 (by decide) rfl ?_
    exact z_iret C dX7_findField_34 rfl (Nat.le_of_ble_eq_true rfl) (Nat.le_of_ble_eq_true rfl) ⟨_, _, rfl, rfl, hw, ⟨by decide, by decide⟩, ⟨by clear C hκ hκl; unfold ffI; rw [if_pos]; first | (simp_all; done) | grind, sQ.refl⟩⟩
  · skip
    have c1b : (0 ≤ (t) ∧ (t) < w 0 0) := of_decide_eq_true c1
    refine z_iload_n C 9 2 dX7_findField_8 rfl rfl ?_
    refine z_i2l C 10 dX7_findField_9 r_n rfl ?_
    refine z_lconst (x := 0) C 11 dX7_findField_10 rfl rfl ?_
    refine z_ldc2 (z := 19) C 14 dX7_findField_11 q2232 (by decide) rfl ?_
    refine z_callSF (n' := 0) (k' := 0) (As := [.long (lI (n)), .long (lI (0)), .long (lI (19))]) (rest := []) C hκ hκl 17 (k7_in (n) (0) (19) (inR_L r_n) ⟨by decide, by decide⟩ ⟨by decide, by decide⟩) dX7_findField_14 q2164 q2165 q97 q2166 znX7_in (Nat.le_of_ble_eq_true rfl) (Nat.le_of_ble_eq_true rfl) (Nat.le_of_ble_eq_true rfl) (Nat.le_of_ble_eq_true rfl) rfl (Nat.le_of_ble_eq_true rfl) rfl rfl rfl ?_
    refine z_ifB_eq C 32 20 dX7_findField_17 (by decide) rfl (fun c2 => ?_) (fun c2 => ?_)
    · skip
      have c2b : ¬ (((0) ≤ (n) ∧ (n) ≤ (19))) := of_decide_eq_false c2
      refine z_bipush C 34 dX7_findField_32 (by decide) rfl ?_
      exact z_iret C dX7_findField_34 rfl (Nat.le_of_ble_eq_true rfl) (Nat.le_of_ble_eq_true rfl) ⟨_, _, rfl, rfl, hw, ⟨by decide, by decide⟩, ⟨by clear C hκ hκl; unfold ffI; rw [if_pos]; first | (simp_all; done) | grind, sQ.refl⟩⟩
    · skip
      have c2b : (((0) ≤ (n) ∧ (n) ≤ (19))) := of_decide_eq_true c2
      refine z_iload_n C 21 3 dX7_findField_20 rfl rfl ?_
      refine z_i2l C 22 dX7_findField_21 r_y rfl ?_
      refine z_lconst (x := 0) C 23 dX7_findField_22 rfl rfl ?_
      refine z_ldc2 (z := 2) C 26 dX7_findField_23 q2287 (by decide) rfl ?_
      refine z_callSF (n' := 0) (k' := 0) (As := [.long (lI (y)), .long (lI (0)), .long (lI (2))]) (rest := []) C hκ hκl 29 (k7_in (y) (0) (2) (inR_L r_y) ⟨by decide, by decide⟩ ⟨by decide, by decide⟩) dX7_findField_26 q2164 q2165 q97 q2166 znX7_in (Nat.le_of_ble_eq_true rfl) (Nat.le_of_ble_eq_true rfl) (Nat.le_of_ble_eq_true rfl) (Nat.le_of_ble_eq_true rfl) rfl (Nat.le_of_ble_eq_true rfl) rfl rfl rfl ?_
      refine z_ifB_ne C 35 32 dX7_findField_29 (by decide) rfl (fun c3 => ?_) (fun c3 => ?_)
      · skip
        have c3b : (((0) ≤ (y) ∧ (y) ≤ (2))) := of_decide_eq_true c3
        have hbad : (!tyB w t || !decide (0 ≤ n ∧ n ≤ 19) || !decide (0 ≤ y ∧ y ≤ 2)) = false := by clear C hκ hκl; first | (simp_all; done) | grind
        refine z_iload_n C 36 3 dX7_findField_35 rfl rfl ?_
        refine z_if_ne C 46 39 dX7_findField_36 (by decide) r_y rfl (fun c4 => ?_) (fun c4 => ?_)
        · skip
          refine z_aload_n C 47 0 dX7_findField_46 rfl rfl ?_
          refine z_iload_n C 48 1 dX7_findField_47 rfl rfl ?_
          refine z_callVF0 (n' := 0) (k' := 0) (As := [.int (iI (t))]) (rest := []) C hκ hκl 51 (k7_beginAt hD hw (t) r_t) dX7_findField_48 q2288 q2290 qs56 q97 q2291 znX7_beginAt (Nat.le_of_ble_eq_true rfl) (Nat.le_of_ble_eq_true rfl) (Nat.le_of_ble_eq_true rfl) (Nat.le_of_ble_eq_true rfl) mrec rfl rfl (Nat.le_of_ble_eq_true rfl) rfl rfl rfl ?_
          obtain ⟨w1, ew1⟩ : ∃ wz, bgW w (t) = wz := ⟨_, rfl⟩
          rw [ew1]
          have hw1 : mWF w1 := ew1 ▸ (bgW_wf hw r_t)
          have L51_5 : ∀ (fu : Nat) (f : Nat) (S : List Int) (w' : mW) (hw' : mWF w') (hsr : srch w w' (ffP w n y) (chL w (decide (y = 2))) (ffT w t n y) f S) (hme : f < fu), Z κ (mP θ am ar w' N) 0 0 51 [(0, .ref (am)), (1, .int (iI (t))), (2, .int (iI (n))), (3, .int (iI (y)))] [] := by
            intro fu
            induction fu with
            | zero => intro f S w' hw' hsr hme; exact absurd hme (Nat.not_lt_zero _)
            | succ fu ih6 =>
              intro f S w' hw' hsr hme
              have q41 := hsr.1.1
              have hS' := mS_q hsr.2.1 hS
              have e0 : w' 0 0 = w 0 0 := hsr.2.1 0 0 (by decide) (by decide) (by decide)
              have e11 : w' 11 0 = w 11 0 := hsr.2.1 11 0 (by decide) (by decide) (by decide)
              refine z_aload_n C 52 0 dX7_findField_51 rfl rfl ?_
              refine m_geti C hκ 55 41 (by decide) rfl q2036 rfl dX7_findField_52 rfl ?_
              refine z_if_le C 125 58 dX7_findField_55 (by decide) (hw'.r _ _ rfl) rfl (fun c7 => ?_) (fun c7 => ?_)
              · skip
                refine z_iconst C 126 dX7_findField_125 rfl ?_
                exact z_iret C dX7_findField_126 rfl (Nat.le_of_ble_eq_true rfl) (Nat.le_of_ble_eq_true rfl) ⟨_, _, rfl, rfl, hw', ⟨by decide, by decide⟩, ⟨by unfold ffI; rw [if_neg (by rw [hbad]; decide), if_neg (by omega), if_pos (srch_end (show srch w w' _ _ _ _ [] from by have : S = [] := (by cases S with | nil => rfl | cons a b => (simp at q41; omega)); rw [this] at hsr; exact hsr))], hsr.2.1⟩⟩
              · skip
                obtain ⟨t0, S', rfl⟩ : ∃ t0 S', S = t0 :: S' := by cases S with | nil => (simp at q41; omega) | cons a b => exact ⟨a, b, rfl⟩
                obtain ⟨ht40e, ht0, hmany, hf1⟩ := srch_top hsr
                have ht40 : 0 ≤ w' 40 (w' 41 0 - 1) ∧ w' 40 (w' 41 0 - 1) < 60 := by rw [ht40e]; omega
                refine z_aload_n C 59 0 dX7_findField_58 rfl rfl ?_
                refine z_callVF (n' := 0) (k' := 0) (As := []) (rest := []) C hκ hκl 62 (k7_nextType hD hw'  (by omega) ht40) dX7_findField_59 q2292 q2294 qs57 q97 q2295 znX7_nextType (Nat.le_of_ble_eq_true rfl) (Nat.le_of_ble_eq_true rfl) (Nat.le_of_ble_eq_true rfl) (Nat.le_of_ble_eq_true rfl) mrec rfl rfl (Nat.le_of_ble_eq_true rfl) rfl rfl rfl ?_
                obtain ⟨w2, ew2⟩ : ∃ wz, mset (mset w' 41 0 (w' 41 0 - 1)) 42 (w' 40 (w' 41 0 - 1)) 1 = wz := ⟨_, rfl⟩
                rw [ew2]
                have hw2 : mWF w2 := ew2 ▸ ((hw'.set ⟨by omega, by omega⟩ rfl).setB (Or.inr rfl))
                rw [ht40e] at ew2
                have epop : popW w' t0 = w2 := ew2
                have q1 : sQ w w2 := epop ▸ srch_q hsr.2.1
                have hS1 := mS_q q1 hS
                have e01 : w2 0 0 = w 0 0 := q1 0 0 (by decide) (by decide) (by decide)
                have e111 : w2 11 0 = w 11 0 := q1 11 0 (by decide) (by decide) (by decide)
                obtain ⟨tt, ett⟩ : ∃ tt : Int, (if mb w' 42 (w' 40 (w' 41 0 - 1)) then -1 else w' 40 (w' 41 0 - 1)) = tt := ⟨_, rfl⟩
                have htt := ett
                rw [ht40e] at htt
                have hcase : (mb w' 42 t0 = true ∧ tt = -1) ∨ (mb w' 42 t0 = false ∧ tt = t0) := by cases hb : mb w' 42 t0 <;> rw [hb] at htt <;> simp at htt <;> simp [htt]
                refine z_as (st' := [.int (iI tt)]) rfl rfl (congrArg (fun z => [Value.int (iI z)]) ett) ?_
                refine z_istore (lv' := [(0, .ref (am)), (1, .int (iI (t))), (2, .int (iI (n))), (3, .int (iI (y))), (4, .int (iI (tt)))]) C 64 [1, 2, 3, 4, 0] dX7_findField_62 (by decide) rfl rfl ?_
                refine z_iload C 66 4 dX7_findField_64 rfl rfl ?_
                refine z_iconst C 67 dX7_findField_66 rfl ?_
                refine z_icmp_ne C 73 70 dX7_findField_67 (by decide) ⟨by omega, by omega⟩ ⟨by decide, by decide⟩ rfl (fun c8 => ?_) (fun c8 => ?_)
                · skip
                  refine z_aload_n C 74 0 dX7_findField_73 rfl rfl ?_
                  refine z_iload C 76 4 dX7_findField_74 rfl rfl ?_
                  refine z_iload_n C 77 2 dX7_findField_76 rfl rfl ?_
                  refine z_callVF (n' := 0) (k' := 0) (As := [.int (iI (tt)), .int (iI (n))]) (rest := []) C hκ hκl 80 (k7_ownField hD hw2 (tt) (n) ⟨by omega, by omega⟩ r_n hS1.B) dX7_findField_77 q2234 q2236 qs47 q97 q2237 znX7_ownField (Nat.le_of_ble_eq_true rfl) (Nat.le_of_ble_eq_true rfl) (Nat.le_of_ble_eq_true rfl) (Nat.le_of_ble_eq_true rfl) mrec rfl rfl (Nat.le_of_ble_eq_true rfl) rfl rfl rfl ?_
                  have h9 := ofI_r (w := w2) (t := tt) (n := n) (by omega)
                  refine z_istore (lv' := [(0, .ref (am)), (1, .int (iI (t))), (2, .int (iI (n))), (3, .int (iI (y))), (4, .int (iI (tt))), (5, .int (iI (ofI w2 (tt) (n))))]) C 82 [1, 2, 3, 4, 5, 0] dX7_findField_80 (by decide) rfl rfl ?_
                  have ol1 : ofI w2 tt n = ofI w tt n := ofI_q q1
                  have wh1 : ∀ x, whoI w2 x = whoI w x := fun x => whoI_q q1
                  refine z_iload C 84 5 dX7_findField_82 rfl rfl ?_
                  refine z_iconst C 85 dX7_findField_84 rfl ?_
                  refine z_icmp_eq C 106 88 dX7_findField_85 (by decide) ⟨by omega, by omega⟩ ⟨by decide, by decide⟩ rfl (fun c10 => ?_) (fun c10 => ?_)
                  · skip
                    have hv : mb w' 42 t0 = false := by rcases hcase with h | h; omega; exact h.1
                    have htt0 : tt = t0 := by rcases hcase with h | h; omega; exact h.2
                    have hpf : ffP w n y t0 = false := by clear C hκ hκl; rw [← htt0]; unfold ffP; rw [← ol1, ← wh1]; first | (simp_all; done) | grind
                    obtain ⟨hms, hm41a, hm41b⟩ := srch_miss (pf := (decide (y = 2))) hS hsr hv hpf
                    rw [epop] at hms hm41a hm41b
                    have hm41 : 0 ≤ w2 41 0 ∧ w2 41 0 + 5 ≤ 248 := ⟨hm41a, hm41b⟩
                    have ht61 : w2 6 tt ≤ 3 := (hS1.T (show 0 ≤ tt by omega) (by omega)).2.1.2
                    refine z_aload_n C 107 0 dX7_findField_106 rfl rfl ?_
                    refine z_iload C 109 4 dX7_findField_107 rfl rfl ?_
                    refine z_iload_n C 110 3 dX7_findField_109 rfl rfl ?_
                    refine z_iconst C 111 dX7_findField_110 rfl ?_
                    refine z_icmp_ne C 118 114 dX7_findField_111 (by decide) r_y ⟨by decide, by decide⟩ rfl (fun c11 => ?_) (fun c11 => ?_)
                    · skip
                      refine z_iconst C 119 dX7_findField_118 rfl ?_
                      have hyb : decide (y = 2) = false := by simp; omega
                      rw [hyb] at hms
                      refine z_callVF0 (n' := 0) (k' := 0) (As := [.int (iI (tt)), .int (iI (0))]) (rest := []) C hκ hκl 122 (k7_layAhead hD hw2 (tt) (false) ⟨by omega, by omega⟩ hS1 (by omega) hm41) dX7_findField_119 q2296 q2298 qs58 q97 q2299 znX7_layAhead (Nat.le_of_ble_eq_true rfl) (Nat.le_of_ble_eq_true rfl) (Nat.le_of_ble_eq_true rfl) (Nat.le_of_ble_eq_true rfl) mrec rfl rfl (Nat.le_of_ble_eq_true rfl) rfl rfl rfl ?_
                      obtain ⟨w3, ew3⟩ : ∃ wz, lhW w2 (tt) (false) = wz := ⟨_, rfl⟩
                      rw [ew3]
                      have hw3 : mWF w3 := ew3 ▸ (lhW_wf hw2 ht61 hm41)
                      have hms9 := hms
                      rw [← htt0] at hms9
                      rw [ew3] at hms9
                      rw [htt0] at hms9
                      refine z_goto C 51 dX7_findField_122 (by decide) ?_
                      refine z_sub [0, 1, 2, 3] (lv' := [(0, .ref (am)), (1, .int (iI (t))), (2, .int (iI (n))), (3, .int (iI (y)))]) rfl ?_
                      refine z_as (lv' := [(0, .ref (am)), (1, .int (iI (t))), (2, .int (iI (n))), (3, .int (iI (y)))]) rfl rfl rfl ?_
                      exact ih6 (f - 1) (chL w false t0 ++ S') (w3) hw3 (by rw [hyb]; exact hms9) (by omega)
                    · skip
                      refine z_iconst C 115 dX7_findField_114 rfl ?_
                      refine z_goto C 119 dX7_findField_115 (by decide) ?_
                      have hyb : decide (y = 2) = true := by simp; omega
                      rw [hyb] at hms
                      refine z_callVF0 (n' := 0) (k' := 0) (As := [.int (iI (tt)), .int (iI (1))]) (rest := []) C hκ hκl 122 (k7_layAhead hD hw2 (tt) (true) ⟨by omega, by omega⟩ hS1 (by omega) hm41) dX7_findField_119 q2296 q2298 qs58 q97 q2299 znX7_layAhead (Nat.le_of_ble_eq_true rfl) (Nat.le_of_ble_eq_true rfl) (Nat.le_of_ble_eq_true rfl) (Nat.le_of_ble_eq_true rfl) mrec rfl rfl (Nat.le_of_ble_eq_true rfl) rfl rfl rfl ?_
                      obtain ⟨w4, ew4⟩ : ∃ wz, lhW w2 (tt) (true) = wz := ⟨_, rfl⟩
                      rw [ew4]
                      have hw4 : mWF w4 := ew4 ▸ (lhW_wf hw2 ht61 hm41)
                      have hms9 := hms
                      rw [← htt0] at hms9
                      rw [ew4] at hms9
                      rw [htt0] at hms9
                      refine z_goto C 51 dX7_findField_122 (by decide) ?_
                      refine z_sub [0, 1, 2, 3] (lv' := [(0, .ref (am)), (1, .int (iI (t))), (2, .int (iI (n))), (3, .int (iI (y)))]) rfl ?_
                      refine z_as (lv' := [(0, .ref (am)), (1, .int (iI (t))), (2, .int (iI (n))), (3, .int (iI (y)))]) rfl rfl rfl ?_
                      exact ih6 (f - 1) (chL w true t0 ++ S') (w4) hw4 (by rw [hyb]; exact hms9) (by omega)
                  · skip
                    refine z_iload_n C 89 3 dX7_findField_88 rfl rfl ?_
                    refine z_iconst C 90 dX7_findField_89 rfl ?_
                    refine z_icmp_eq C 103 93 dX7_findField_90 (by decide) r_y ⟨by decide, by decide⟩ rfl (fun c12 => ?_) (fun c12 => ?_)
                    · skip
                      refine z_iload C 105 5 dX7_findField_103 rfl rfl ?_
                      exact z_iret C dX7_findField_105 rfl (Nat.le_of_ble_eq_true rfl) (Nat.le_of_ble_eq_true rfl) ⟨_, _, rfl, rfl, hw2, ⟨by omega, by omega⟩, ⟨by have hv : mb w' 42 t0 = false := (by rcases hcase with h | h; omega; exact h.1); have htt0 : tt = t0 := (by rcases hcase with h | h; omega; exact h.2); have hp : ffP w n y t0 = true := (by clear C hκ hκl; rw [← htt0]; unfold ffP; rw [← ol1, ← wh1]; first | (simp_all; done) | grind); have hR := srch_hit hsr hv hp; unfold ffI; rw [if_neg (by rw [hbad]; decide), if_neg (by omega), if_neg (by omega), hR, ← htt0]; exact ol1, q1⟩⟩
                    · skip
                      refine z_aload_n C 94 0 dX7_findField_93 rfl rfl ?_
                      refine z_iload C 96 5 dX7_findField_94 rfl rfl ?_
                      refine z_callVF (n' := 0) (k' := 0) (As := [.int (iI (ofI w2 (tt) (n)))]) (rest := []) C hκ hκl 99 (k7_who hD hw2 (ofI w2 (tt) (n)) ⟨by omega, by omega⟩ (by omega)) dX7_findField_96 q2279 q2281 qs55 q97 q2282 znX7_who (Nat.le_of_ble_eq_true rfl) (Nat.le_of_ble_eq_true rfl) (Nat.le_of_ble_eq_true rfl) (Nat.le_of_ble_eq_true rfl) mrec rfl rfl (Nat.le_of_ble_eq_true rfl) rfl rfl rfl ?_
                      refine z_iconst C 100 dX7_findField_99 rfl ?_
                      refine z_icmp_ne C 106 103 dX7_findField_100 (by decide) (inR_zand _ _) ⟨by decide, by decide⟩ rfl (fun c13 => ?_) (fun c13 => ?_)
                      · skip
                        have hv : mb w' 42 t0 = false := by rcases hcase with h | h; omega; exact h.1
                        have htt0 : tt = t0 := by rcases hcase with h | h; omega; exact h.2
                        have hpf : ffP w n y t0 = false := by clear C hκ hκl; rw [← htt0]; unfold ffP; rw [← ol1, ← wh1]; first | (simp_all; done) | grind
                        obtain ⟨hms, hm41a, hm41b⟩ := srch_miss (pf := (decide (y = 2))) hS hsr hv hpf
                        rw [epop] at hms hm41a hm41b
                        have hm41 : 0 ≤ w2 41 0 ∧ w2 41 0 + 5 ≤ 248 := ⟨hm41a, hm41b⟩
                        have ht61 : w2 6 tt ≤ 3 := (hS1.T (show 0 ≤ tt by omega) (by omega)).2.1.2
                        refine z_aload_n C 107 0 dX7_findField_106 rfl rfl ?_
                        refine z_iload C 109 4 dX7_findField_107 rfl rfl ?_
                        refine z_iload_n C 110 3 dX7_findField_109 rfl rfl ?_
                        refine z_iconst C 111 dX7_findField_110 rfl ?_
                        refine z_icmp_ne C 118 114 dX7_findField_111 (by decide) r_y ⟨by decide, by decide⟩ rfl (fun c14 => ?_) (fun c14 => ?_)
                        · skip
                          refine z_iconst C 119 dX7_findField_118 rfl ?_
                          have hyb : decide (y = 2) = false := by simp; omega
                          rw [hyb] at hms
                          refine z_callVF0 (n' := 0) (k' := 0) (As := [.int (iI (tt)), .int (iI (0))]) (rest := []) C hκ hκl 122 (k7_layAhead hD hw2 (tt) (false) ⟨by omega, by omega⟩ hS1 (by omega) hm41) dX7_findField_119 q2296 q2298 qs58 q97 q2299 znX7_layAhead (Nat.le_of_ble_eq_true rfl) (Nat.le_of_ble_eq_true rfl) (Nat.le_of_ble_eq_true rfl) (Nat.le_of_ble_eq_true rfl) mrec rfl rfl (Nat.le_of_ble_eq_true rfl) rfl rfl rfl ?_
                          obtain ⟨w5, ew5⟩ : ∃ wz, lhW w2 (tt) (false) = wz := ⟨_, rfl⟩
                          rw [ew5]
                          have hw5 : mWF w5 := ew5 ▸ (lhW_wf hw2 ht61 hm41)
                          have hms9 := hms
                          rw [← htt0] at hms9
                          rw [ew5] at hms9
                          rw [htt0] at hms9
                          refine z_goto C 51 dX7_findField_122 (by decide) ?_
                          refine z_sub [0, 1, 2, 3] (lv' := [(0, .ref (am)), (1, .int (iI (t))), (2, .int (iI (n))), (3, .int (iI (y)))]) rfl ?_
                          refine z_as (lv' := [(0, .ref (am)), (1, .int (iI (t))), (2, .int (iI (n))), (3, .int (iI (y)))]) rfl rfl rfl ?_
                          exact ih6 (f - 1) (chL w false t0 ++ S') (w5) hw5 (by rw [hyb]; exact hms9) (by omega)
                        · skip
                          refine z_iconst C 115 dX7_findField_114 rfl ?_
                          refine z_goto C 119 dX7_findField_115 (by decide) ?_
                          have hyb : decide (y = 2) = true := by simp; omega
                          rw [hyb] at hms
                          refine z_callVF0 (n' := 0) (k' := 0) (As := [.int (iI (tt)), .int (iI (1))]) (rest := []) C hκ hκl 122 (k7_layAhead hD hw2 (tt) (true) ⟨by omega, by omega⟩ hS1 (by omega) hm41) dX7_findField_119 q2296 q2298 qs58 q97 q2299 znX7_layAhead (Nat.le_of_ble_eq_true rfl) (Nat.le_of_ble_eq_true rfl) (Nat.le_of_ble_eq_true rfl) (Nat.le_of_ble_eq_true rfl) mrec rfl rfl (Nat.le_of_ble_eq_true rfl) rfl rfl rfl ?_
                          obtain ⟨w6, ew6⟩ : ∃ wz, lhW w2 (tt) (true) = wz := ⟨_, rfl⟩
                          rw [ew6]
                          have hw6 : mWF w6 := ew6 ▸ (lhW_wf hw2 ht61 hm41)
                          have hms9 := hms
                          rw [← htt0] at hms9
                          rw [ew6] at hms9
                          rw [htt0] at hms9
                          refine z_goto C 51 dX7_findField_122 (by decide) ?_
                          refine z_sub [0, 1, 2, 3] (lv' := [(0, .ref (am)), (1, .int (iI (t))), (2, .int (iI (n))), (3, .int (iI (y)))]) rfl ?_
                          refine z_as (lv' := [(0, .ref (am)), (1, .int (iI (t))), (2, .int (iI (n))), (3, .int (iI (y)))]) rfl rfl rfl ?_
                          exact ih6 (f - 1) (chL w true t0 ++ S') (w6) hw6 (by rw [hyb]; exact hms9) (by omega)
                      · skip
                        refine z_iload C 105 5 dX7_findField_103 rfl rfl ?_
                        exact z_iret C dX7_findField_105 rfl (Nat.le_of_ble_eq_true rfl) (Nat.le_of_ble_eq_true rfl) ⟨_, _, rfl, rfl, hw2, ⟨by omega, by omega⟩, ⟨by have hv : mb w' 42 t0 = false := (by rcases hcase with h | h; omega; exact h.1); have htt0 : tt = t0 := (by rcases hcase with h | h; omega; exact h.2); have hp : ffP w n y t0 = true := (by clear C hκ hκl; rw [← htt0]; unfold ffP; rw [← ol1, ← wh1]; first | (simp_all; done) | grind); have hR := srch_hit hsr hv hp; unfold ffI; rw [if_neg (by rw [hbad]; decide), if_neg (by omega), if_neg (by omega), hR, ← htt0]; exact ol1, q1⟩⟩
                · skip
                  refine z_goto C 51 dX7_findField_70 (by decide) ?_
                  refine z_sub [0, 1, 2, 3] (lv' := [(0, .ref (am)), (1, .int (iI (t))), (2, .int (iI (n))), (3, .int (iI (y)))]) rfl ?_
                  refine z_as (lv' := [(0, .ref (am)), (1, .int (iI (t))), (2, .int (iI (n))), (3, .int (iI (y)))]) rfl rfl rfl ?_
                  exact ih6 (f - 1) (S') (w2) hw2 (epop ▸ srch_seen hsr (by rcases hcase with h | h; exact h.1; omega)) (by omega)
          refine z_as (lv' := [(0, .ref (am)), (1, .int (iI (t))), (2, .int (iI (n))), (3, .int (iI (y)))]) rfl rfl rfl ?_
          exact L51_5 _ (301) ([t]) (w1) hw1 (ew1 ▸ srch_0 hS (by omega)) (Nat.lt_succ_self _)
        · skip
          refine z_aload_n C 40 0 dX7_findField_39 rfl rfl ?_
          refine z_iload_n C 41 1 dX7_findField_40 rfl rfl ?_
          refine z_iload_n C 42 2 dX7_findField_41 rfl rfl ?_
          refine z_callVF (n' := 0) (k' := 0) (As := [.int (iI (t)), .int (iI (n))]) (rest := []) C hκ hκl 45 (k7_ownField hD hw (t) (n) r_t r_n hB) dX7_findField_42 q2234 q2236 qs47 q97 q2237 znX7_ownField (Nat.le_of_ble_eq_true rfl) (Nat.le_of_ble_eq_true rfl) (Nat.le_of_ble_eq_true rfl) (Nat.le_of_ble_eq_true rfl) mrec rfl rfl (Nat.le_of_ble_eq_true rfl) rfl rfl rfl ?_
          have h15 := ofI_r (w := w) (t := t) (n := n) (by omega)
          exact z_iret C dX7_findField_45 rfl (Nat.le_of_ble_eq_true rfl) (Nat.le_of_ble_eq_true rfl) ⟨_, _, rfl, rfl, hw, ⟨by omega, by omega⟩, ⟨by unfold ffI; rw [if_neg (by rw [hbad]; decide), if_pos (by omega)], sQ.refl⟩⟩
      · skip
        have c3b : ¬ (((0) ≤ (y) ∧ (y) ≤ (2))) := of_decide_eq_false c3
        refine z_bipush C 34 dX7_findField_32 (by decide) rfl ?_
        exact z_iret C dX7_findField_34 rfl (Nat.le_of_ble_eq_true rfl) (Nat.le_of_ble_eq_true rfl) ⟨_, _, rfl, rfl, hw, ⟨by decide, by decide⟩, ⟨by clear C hκ hκl; unfold ffI; rw [if_pos]; first | (simp_all; done) | grind, sQ.refl⟩⟩
set_option maxRecDepth 100000 in
theorem k7_findMethod {l : Launch} {θ : zTh} {N : zMap} {am : Nat} {ar : Nat → Nat} {w : mW} (hD : mDis am ar) (hw : mWF w) (t : Int) (m : Int) (y : Int) (r_t : inR t) (r_m : inR m) (r_y : inR y) (hS : mS w)  : ZM θ l yX7_findMethod cX7_findMethod 4 (some .int) ⟨3, 0, 0, 73⟩ [.ref (am), .int (iI (t)), .int (iI (m)), .int (iI (y))] (mP θ am ar w N) (fun v Q => ∃ r w', v = some (.int (iI r)) ∧ Q = mP θ am ar w' N ∧ mWF w' ∧ inR r ∧ (r = fmI w t m y ∧ sQ w w')) := by
  refine z_start (own := RX7) (nm := "findMethod") pnX7 rfl rfl (Nat.le_of_ble_eq_true rfl) ?_
  intro κ hκ hκl C
  change Z κ (mP θ am ar w N) 0 0 0 [(0, .ref (am)), (1, .int (iI (t))), (2, .int (iI (m))), (3, .int (iI (y)))] []
  have hB := hS.B
  obtain ⟨hB1, hB2, hB3, hB4, hB5, hB6⟩ := hS.B
  have hC := hS.C
  refine z_aload_n C 1 0 dX7_findMethod_0 rfl rfl ?_
  refine z_iload_n C 2 1 dX7_findMethod_1 rfl rfl ?_
  refine z_callVF (n' := 0) (k' := 0) (As := [.int (iI (t))]) (rest := []) C hκ hκl 5 (k7_isType hD hw (t) r_t hB) dX7_findMethod_2 q2160 q2162 qs40 q97 q2163 znX7_isType (Nat.le_of_ble_eq_true rfl) (Nat.le_of_ble_eq_true rfl) (Nat.le_of_ble_eq_true rfl) (Nat.le_of_ble_eq_true rfl) mrec rfl rfl (Nat.le_of_ble_eq_true rfl) rfl rfl rfl ?_
  refine z_ifB_eq C 28 8 dX7_findMethod_5 (by decide) rfl (fun c1 => ?_) (fun c1 => ?_)
  · skip
    have c1b : ¬ (0 ≤ (t) ∧ (t) < w 0 0) := of_decide_eq_false c1
    refine z_bipush C 30 dX7_findMethod_28 (by decide) rfl ?_
    exact z_iret C dX7_findMethod_30 rfl (Nat.le_of_ble_eq_true rfl) (Nat.le_of_ble_eq_true rfl) ⟨_, _, rfl, rfl, hw, ⟨by decide, by decide⟩, ⟨by clear C hκ hκl; unfold fmI; rw [if_pos]; first | (simp_all; done) | grind, sQ.refl⟩⟩
  · skip
    have c1b : (0 ≤ (t) ∧ (t) < w 0 0) := of_decide_eq_true c1
    refine z_aload_n C 9 0 dX7_findMethod_8 rfl rfl ?_
    refine z_iload_n C 10 2 dX7_findMethod_9 rfl rfl ?_
    refine z_callVF (n' := 0) (k' := 0) (As := [.int (iI (m))]) (rest := []) C hκ hκl 13 (k7_isMethod hD hw (m) r_m hB) dX7_findMethod_10 q2304 q2306 qs59 q97 q2307 znX7_isMethod (Nat.le_of_ble_eq_true rfl) (Nat.le_of_ble_eq_true rfl) (Nat.le_of_ble_eq_true rfl) (Nat.le_of_ble_eq_true rfl) mrec rfl rfl (Nat.le_of_ble_eq_true rfl) rfl rfl rfl ?_
    refine z_ifB_eq C 28 16 dX7_findMethod_13 (by decide) rfl (fun c2 => ?_) (fun c2 => ?_)
    · skip
      have c2b : ¬ (0 ≤ (m) ∧ (m) < w 11 0 ∧ w 16 (m) ≠ 1) := of_decide_eq_false c2
      refine z_bipush C 30 dX7_findMethod_28 (by decide) rfl ?_
      exact z_iret C dX7_findMethod_30 rfl (Nat.le_of_ble_eq_true rfl) (Nat.le_of_ble_eq_true rfl) ⟨_, _, rfl, rfl, hw, ⟨by decide, by decide⟩, ⟨by clear C hκ hκl; unfold fmI; rw [if_pos]; first | (simp_all; done) | grind, sQ.refl⟩⟩
    · skip
      have c2b : (0 ≤ (m) ∧ (m) < w 11 0 ∧ w 16 (m) ≠ 1) := of_decide_eq_true c2
      refine z_iload_n C 17 3 dX7_findMethod_16 rfl rfl ?_
      refine z_i2l C 18 dX7_findMethod_17 r_y rfl ?_
      refine z_lconst (x := 0) C 19 dX7_findMethod_18 rfl rfl ?_
      refine z_ldc2 (z := 2) C 22 dX7_findMethod_19 q2287 (by decide) rfl ?_
      refine z_callSF (n' := 0) (k' := 0) (As := [.long (lI (y)), .long (lI (0)), .long (lI (2))]) (rest := []) C hκ hκl 25 (k7_in (y) (0) (2) (inR_L r_y) ⟨by decide, by decide⟩ ⟨by decide, by decide⟩) dX7_findMethod_22 q2164 q2165 q97 q2166 znX7_in (Nat.le_of_ble_eq_true rfl) (Nat.le_of_ble_eq_true rfl) (Nat.le_of_ble_eq_true rfl) (Nat.le_of_ble_eq_true rfl) rfl (Nat.le_of_ble_eq_true rfl) rfl rfl rfl ?_
      refine z_ifB_ne C 31 28 dX7_findMethod_25 (by decide) rfl (fun c3 => ?_) (fun c3 => ?_)
      · skip
        have c3b : (((0) ≤ (y) ∧ (y) ≤ (2))) := of_decide_eq_true c3
        refine z_aload_n C 32 0 dX7_findMethod_31 rfl rfl ?_
        refine z_iload_n C 33 1 dX7_findMethod_32 rfl rfl ?_
        refine z_iload_n C 34 2 dX7_findMethod_33 rfl rfl ?_
        refine z_iload_n C 35 3 dX7_findMethod_34 rfl rfl ?_
        refine z_callV  (As := [.int (iI (t)), .int (iI (m)), .int (iI (y))]) (rest := []) C hκ hκl 38 (k7_found hD hw (t) (m) (y) r_t r_m r_y hS (by omega) (by omega)) dX7_findMethod_35 q2308 q2310 qs60 q97 q2311 znX7_found (Nat.le_of_ble_eq_true rfl) (Nat.le_of_ble_eq_true rfl) (Nat.le_of_ble_eq_true rfl) (Nat.le_of_ble_eq_true rfl) mrec rfl rfl (Nat.le_of_ble_eq_true rfl) rfl (fun v9 Q9 h9 => ?_)
        obtain ⟨r5, w1, rfl, rfl, hw1, r_r5, hr4⟩ := h9
        refine z_as (st' := [.int (iI (r5))]) rfl rfl rfl ?_
        refine z_widen (n' := 0) (k' := 0) (Nat.le_refl _) (Nat.le_refl _) ?_
        exact z_iret C dX7_findMethod_38 rfl (Nat.le_of_ble_eq_true rfl) (Nat.le_of_ble_eq_true rfl) ⟨_, _, rfl, rfl, hw1, r_r5, ⟨by unfold fmI; rw [if_neg (by clear C hκ hκl; first | (simp_all; done) | grind)]; exact hr4.1, hr4.2⟩⟩
      · skip
        have c3b : ¬ (((0) ≤ (y) ∧ (y) ≤ (2))) := of_decide_eq_false c3
        refine z_bipush C 30 dX7_findMethod_28 (by decide) rfl ?_
        exact z_iret C dX7_findMethod_30 rfl (Nat.le_of_ble_eq_true rfl) (Nat.le_of_ble_eq_true rfl) ⟨_, _, rfl, rfl, hw, ⟨by decide, by decide⟩, ⟨by clear C hκ hκl; unfold fmI; rw [if_pos]; first | (simp_all; done) | grind, sQ.refl⟩⟩
