/-! ===== the Model: calls go ===== -/
theorem olI_like {w : mW} {t m : Int} (h : olI w t m ≠ -1) : mtB w (olI w t m) = true ∧ likeB w (olI w t m) m = true ∧ w 13 (olI w t m) = t := by
  obtain ⟨k, e, hk, hp⟩ := lastN_p h
  unfold olI
  rw [e]
  simp only [Bool.and_eq_true, Bool.not_eq_true', decide_eq_true_eq] at hp
  refine ⟨?_, hp.2.2, hp.2.1⟩
  unfold mtB
  rw [decide_eq_true_eq]
  have : ¬ w 16 k = 1 := by have := hp.1; unfold mb at this; simpa using this
  omega
theorem fsF_like {w : mW} {m : Int} : ∀ (n : Nat) (t : Int), fsF w m n t ≠ -1 → mtB w (fsF w m n t) = true ∧ likeB w (fsF w m n t) m = true
  | 0, _, h => absurd rfl h
  | n + 1, t, h => by
    simp only [fsF] at h ⊢
    split at h
    · exact absurd rfl h
    · rename_i h1
      rw [if_neg h1]
      split at h
      · rename_i h2
        rw [if_pos h2]
        split at h
        · exact absurd rfl h
        · rename_i h3
          rw [if_neg h3]
          have := olI_like h2.1
          exact ⟨this.1, this.2.1⟩
      · rename_i h2
        rw [if_neg h2]
        exact fsF_like n _ h
theorem foI_like {w : mW} {t m : Int} (h : foI w t m ≠ -1) : mtB w (foI w t m) = true ∧ likeB w (foI w t m) m = true := by
  unfold foI at h ⊢
  split at h
  · rename_i h1; rw [if_pos h1]; exact fsF_like _ _ h1
  · rename_i h1
    rw [if_neg h1]
    split at h
    · rename_i h2
      rw [if_pos h2]
      have := olI_like h
      exact ⟨this.1, this.2.1⟩
    · exact absurd rfl h
theorem likeB_f {w : mW} {m n : Int} (h : likeB w m n = true) : w 17 m = w 17 n ∧ w 18 m = w 18 n ∧ ∀ i : Int, 0 ≤ i → i < w 18 m → w 19 (3 * m + i) = w 19 (3 * n + i) := by
  unfold likeB at h
  simp only [Bool.and_eq_true, decide_eq_true_eq] at h
  refine ⟨h.1.2.1, h.1.2.2, fun i h0 h1 => ?_⟩
  have := allN_t.mp h.2 i.toNat (by omega)
  simp only [decide_eq_true_eq] at this
  rw [show ((i.toNat : Nat) : Int) = i by omega] at this
  exact this
/-- the next method that is opened -/
def nxB (w : mW) (n : Int) : Prop := mtB w n = true ∧ w 18 n ≤ w 18 (wkM w) ∧ (∀ i : Int, 0 ≤ i → i < w 18 n → w 19 (3 * wkM w + i) = w 19 (3 * n + i) ∨ giB w (w 19 (3 * wkM w + i)) (w 19 (3 * n + i)) = true) ∧ (hasB w n 4 = false → 0 ≤ w 48 0 ∧ w 48 0 < w 27 0) ∧ cvB w (w 17 n) (w 17 (wkM w)) = true
theorem nx_like {w : mW} {x n : Int} (hx : nxB w x) (hl : likeB w n x = true) (hn : mtB w n = true) (hs : hasB w n 4 = false → 0 ≤ w 48 0 ∧ w 48 0 < w 27 0) : nxB w n := by
  obtain ⟨h1, h2, h3, h4, h5⟩ := hx
  obtain ⟨l1, l2, l3⟩ := likeB_f hl
  exact ⟨hn, by omega, fun i h0 h1 => by rw [l3 i h0 h1]; exact h3 i h0 (by omega), hs, by rw [l1]; exact h5⟩
theorem wk_nx {w : mW} (hP : wkP w) (h : woI w ≠ -1) : woW w = cmW w (-1) 0 ∧ w 45 0 < 12 ∧ nxB w (woI w) := by
  obtain ⟨hS, hV, ho, hm, hbd, ha, hs, hT⟩ := hP
  obtain ⟨hb, hc⟩ := hbd _ hm
  have hmt := of_decide_eq_true hm
  obtain ⟨m1, m2, m3, m4⟩ := hS.M hmt.1 hmt.2.1
  have hC : sC w (cmW w (-1) 0) := cmW_C
  have e45 : cmW w (-1) 0 45 0 = w 45 0 := hC 45 0 (by decide) (by decide)
  unfold woI wkI at h ⊢
  unfold woW wkW
  by_cases k5 : w 22 (wkM w) = 5
  · simp only [k5, if_true, show ¬ ((5 : Int) = 1) from by decide, show ¬ ((5 : Int) = 2) from by decide, show ¬ ((5 : Int) = 3) from by decide, show ¬ ((5 : Int) = 4) from by decide, if_false] at h ⊢
    unfold bfB at hb
    simp only [k5, if_true, show ¬ ((5 : Int) = 0) from by decide, show ¬ ((5 : Int) = 1) from by decide, show ¬ ((5 : Int) = 2) from by decide, show ¬ ((5 : Int) = 3) from by decide, show ¬ ((5 : Int) = 4) from by decide, if_false] at hb
    unfold bfC bdC at hc
    simp only [k5, if_true, show ¬ ((5 : Int) = 1) from by decide, show ¬ ((5 : Int) = 2) from by decide, if_false] at hc
    generalize w 23 (wkM w) = x at *
    unfold mcF mcK at hb
    simp only [Bool.and_eq_true, decide_eq_true_eq] at hb
    obtain ⟨⟨⟨b1, b2⟩, b3⟩, b4⟩ := hb
    have hsx : hasB w x 4 = false → 0 ≤ w 48 0 ∧ w 48 0 < w 27 0 := fun hh => hs (by unfold reB at b2; rw [hh] at b2; simp at b2; exact b2.1)
    have hx : nxB w x := by
      refine ⟨b1, b3, fun i h0 h1 => Or.inr ?_, hsx, ?_⟩
      · have := allN_t.mp b4 i.toNat (by omega)
        unfold mcP at this
        rw [show ((i.toNat : Nat) : Int) = i by omega] at this
        exact this
      · unfold cvB
        simp only [Bool.or_eq_true, decide_eq_true_eq] at hc ⊢
        rcases hc with (c | c) | c
        · exact Or.inl (Or.inl (Or.inl c))
        · exact Or.inl (Or.inl (Or.inr c))
        · exact Or.inr c
    have b1' := of_decide_eq_true b1
    unfold beI at h ⊢
    unfold beW
    rw [e45] at h ⊢
    by_cases h12 : w 45 0 = 12
    · rw [if_pos h12] at h; exact absurd rfl h
    rw [if_neg h12] at h ⊢
    rw [if_neg h12]
    have evr : vrB (cmW w (-1) 0) x false = vrB w x false := C_of (fun w => vrB w x false) (fun _ => rfl) hC
    have efo : ∀ t, foI (cmW w (-1) 0) t x = foI w t x := fun t => C_of (fun w => foI w t x) (fun _ => rfl) hC
    rw [evr, efo, hC 48 0 (by decide) (by decide), hC 28 _ (by decide) (by decide)] at h ⊢
    by_cases hv : vrB w x false = true
    · rw [if_pos hv] at h ⊢
      rw [if_neg (by rw [hv]; simp; exact h)]
      have hf := foI_like h
      have hx4 : hasB w x 4 = false := by unfold vrB at hv; simp at hv; exact hv.1
      exact ⟨rfl, by omega, nx_like hx hf.2 hf.1 (fun _ => hsx hx4)⟩
    · rw [if_neg hv] at h ⊢
      rw [if_neg (by simp [hv])]
      exact ⟨rfl, by omega, hx⟩
  · by_cases k7 : w 22 (wkM w) = 7
    · simp only [k7, if_true, show ¬ ((7 : Int) = 1) from by decide, show ¬ ((7 : Int) = 2) from by decide, show ¬ ((7 : Int) = 3) from by decide, show ¬ ((7 : Int) = 4) from by decide, show ¬ ((7 : Int) = 5) from by decide, show ¬ ((7 : Int) = 6) from by decide, if_false] at h ⊢
      unfold bfB at hb
      simp only [k7, if_true, show ¬ ((7 : Int) = 0) from by decide, show ¬ ((7 : Int) = 1) from by decide, show ¬ ((7 : Int) = 2) from by decide, show ¬ ((7 : Int) = 3) from by decide, show ¬ ((7 : Int) = 4) from by decide, show ¬ ((7 : Int) = 5) from by decide, show ¬ ((7 : Int) = 6) from by decide, if_false] at hb
      unfold abB at hb
      simp only [Bool.and_eq_true, Bool.not_eq_true'] at hb
      obtain ⟨b1, ⟨⟨⟨⟨b2, b3⟩, b4⟩, b5⟩, b6⟩, b7⟩ := hb
      rw [hC 25 _ (by decide) (by decide)] at h ⊢
      generalize w 25 (wkM w) = n at *
      obtain ⟨l1, l2, l3⟩ := likeB_f b6
      unfold beI at h ⊢
      unfold beW
      rw [e45] at h ⊢
      by_cases h12 : w 45 0 = 12
      · rw [if_pos h12] at h; exact absurd rfl h
      have evr : vrB (cmW w (-1) 0) n true = false := by unfold vrB; rfl
      rw [if_neg h12, evr] at h ⊢
      rw [if_neg h12, if_neg (by simp)]
      rw [if_neg (by simp)]
      refine ⟨rfl, by omega, b2, by omega, fun i h0 h1 => Or.inl (l3 i h0 h1).symm, fun _ => hs b1, ?_⟩
      unfold cvB; rw [l1]; simp
    · rw [if_neg k5, if_neg k7] at h; exact absurd rfl h
/-- what a call stands on, whatever is open -/
def caP (w : mW) : Prop := mS w ∧ mV w ∧ mBd w ∧ mTy w
theorem agB_wd {w : mW} (hT : mTy w) (hS : mS w) {p t b : Int} (hp : 0 ≤ p ∧ p < w 0 0) (ht : 0 ≤ t ∧ t < w 0 0) (h : agB w p b = true) (hg : p = t ∨ giB w p t = true) : agB w t (wdL b p t) = true := by
  rcases hg with rfl | hg
  · unfold wdL; rw [if_pos (Or.inl rfl)]; exact h
  · have hf := ag_ft h
    have hft := wd_ft hf hg hp.1
    unfold agB
    rw [hft, Bool.true_and]
    by_cases t8 : t < 8
    · simp [t8]
    · have p8 : ¬ p < 8 := fun h => by unfold giB at hg; rw [if_pos h] at hg; simp at hg; omega
      have e : wdL b p t = b := by unfold wdL; rw [if_pos (by omega)]
      rw [e]
      unfold agB at h
      simp only [Bool.and_eq_true, Bool.or_eq_true, decide_eq_true_eq] at h ⊢
      rcases h.2 with (c | c) | c
      · omega
      · exact Or.inl (Or.inr c)
      · by_cases b0 : b < 0
        · exact Or.inl (Or.inr b0)
        · right
          have h8 := ft8 hf (by omega)
          have hx := hS.X (show 0 ≤ b by omega) h8.2
          unfold giB at hg
          rw [if_neg p8] at hg
          simp only [Bool.and_eq_true] at hg
          exact of_decide_eq_true (hT.2.1 _ _ _ (by have := hx.1.1; omega) hx.1.2 hp.1 hp.2 ht.1 ht.2 (decide_eq_true c) hg.2)
theorem mV_e {w w' : mW} (h : ∀ (k : Nat) (i : Int), k < 35 → w' k i = w k i) (hV : mV w) : mV w' := by rw [S_of mV (fun _ => rfl) h]; exact hV
theorem mBd_e {w w' : mW} (h : ∀ (k : Nat) (i : Int), k < 35 → w' k i = w k i) (hV : mBd w) : mBd w' := by rw [S_of mBd (fun _ => rfl) h]; exact hV
theorem mTy_e {w w' : mW} (h : ∀ (k : Nat) (i : Int), k < 35 → w' k i = w k i) (hV : mTy w) : mTy w' := by rw [S_of mTy (fun _ => rfl) h]; exact hV
theorem opW_e {w : mW} {m told : Int} : opW w m told 45 0 = w 45 0 + 1 ∧ opW w m told 46 (w 45 0) = m ∧ (∀ i, i ≠ w 45 0 → opW w m told 46 i = w 46 i) ∧ opW w m told 48 0 = w 48 0 ∧ opW w m told 51 0 = w 51 0 ∧ opW w m told 35 0 = w 35 0 + 1 ∧ ∀ j : Nat, j < (w 18 told).toNat → (w 18 told).toNat ≤ 3 → opW w m told 47 (3 * w 45 0 + j) = wdL (wkA w j) (w 19 (3 * wkM w + j)) (w 19 (3 * told + j)) := by
  unfold opW
  refine ⟨by rw [mset_k (by decide), mset_s], by rw [mset_k (by decide), mset_k (by decide), mset_s], fun i h => by rw [mset_k (by decide), mset_k (by decide), mset_i h, opA_k (by decide)], by rw [mset_k (by decide), mset_k (by decide), mset_k (by decide), opA_k (by decide)], by rw [mset_k (by decide), mset_k (by decide), mset_k (by decide), opA_k (by decide)], by rw [mset_s], fun j hj h3 => ?_⟩
  rw [mset_k (by decide), mset_k (by decide), mset_k (by decide), opA_new hj h3]; rfl
theorem agB_e {w w' : mW} (h : ∀ (k : Nat) (i : Int), k < 35 → w' k i = w k i) (t b : Int) : agB w' t b = agB w t b := S_of (fun w => agB w t b) (fun _ => rfl) h
theorem op_wk {w : mW} (hP : wkP w) {n : Int} (hn : nxB w n) (h12 : w 45 0 < 12) : wkP (opW w n n) := by
  obtain ⟨hS, hV, ho, hm, hbd, ha, hs, hT⟩ := hP
  obtain ⟨n1, n2, n3, n4, n5⟩ := hn
  have hmt := of_decide_eq_true hm
  have hnt := of_decide_eq_true n1
  obtain ⟨m1, m2, m3, m4⟩ := hS.M hmt.1 hmt.2.1
  obtain ⟨q1, q2, q3, q4⟩ := hS.M hnt.1 hnt.2.1
  obtain ⟨e45, e46, e46', e48, e51, e35, e47⟩ := opW_e (w := w) (m := n) (told := n)
  have hSS : sS w (opW w n n) := opW_S
  have em : wkM (opW w n n) = n := by unfold wkM; rw [e45, show w 45 0 + 1 - 1 = w 45 0 by omega]; exact e46
  refine ⟨mS_S hSS hS, mV_e hSS hV, by omega, by rw [em, mtB_e (hSS 11 0 (by decide)) (fun i => hSS 16 i (by decide))]; exact n1, mBd_e hSS hbd, fun i h0 h1 => ?_, fun h => ?_, mTy_e hSS hT⟩
  · rw [em] at h1 ⊢
    rw [hSS 18 _ (by decide)] at h1
    have := e47 i.toNat (by omega) (by omega)
    rw [show ((i.toNat : Nat) : Int) = i by omega] at this
    have ew : wkA (opW w n n) i = wdL (wkA w i) (w 19 (3 * wkM w + i)) (w 19 (3 * n + i)) := by unfold wkA at this ⊢; rw [e45, show w 45 0 + 1 - 1 = w 45 0 by omega]; exact this
    rw [ew, agB_e hSS, hSS 19 _ (by decide)]
    exact agB_wd hT hS (m4 i h0 (by omega)) (q4 i h0 h1) (ha i h0 (by omega)) (n3 i h0 h1)
  · rw [em] at h
    have e4 : hasB (opW w n n) n 4 = hasB w n 4 := S_of (fun w => hasB w n 4) (fun _ => rfl) hSS
    rw [e4] at h
    rw [e48, hSS 27 0 (by decide)]
    exact n4 h
theorem op_ch {w : mW} (hP : wkP w) {n : Int} (hn : nxB w n) {k : Nat} (hk : w 45 0 = k) (hc : chP w k) : chP (opW w n n) (k + 1) := by
  obtain ⟨hS, hV, ho, hm, hbd, ha, hs, hT⟩ := hP
  obtain ⟨n1, n2, n3, n4, n5⟩ := hn
  obtain ⟨e45, e46, e46', e48, e51, e35, e47⟩ := opW_e (w := w) (m := n) (told := n)
  have hSS : sS w (opW w n n) := opW_S
  refine ⟨fun j h0 hj => ?_, fun j h0 hj => ?_⟩
  · rw [mtB_e (hSS 11 0 (by decide)) (fun i => hSS 16 i (by decide))]
    by_cases e : j = w 45 0
    · rw [e, e46]; exact n1
    · rw [e46' j e]; exact hc.1 j h0 (by omega)
  · rw [cvB_8 (fun i => hSS 8 i (by decide)), hSS 17 _ (by decide), hSS 17 _ (by decide), e46' j (by omega)]
    by_cases e : j + 1 = w 45 0
    · rw [e, e46]
      have : wkM w = w 46 j := by unfold wkM; congr 1; omega
      rw [← this]; exact n5
    · rw [e46' (j + 1) e]; exact hc.2 j h0 (by omega)
/-- a step's state, all in one -/
def stP (w : mW) (k : Nat) : Prop := wkP w ∧ w 45 0 = k ∧ chP w k ∧ w 51 0 = 0
theorem st_C {w w' : mW} (h : sC w w') {k : Nat} (hP : stP w k) : stP w' k := by
  have h9 : stP w' k = stP w k := C_of (fun w => stP w k) (fun _ => rfl) h
  rw [h9]; exact hP
theorem wkM_C {w w' : mW} (h : sC w w') : wkM w' = wkM w := C_of wkM (fun _ => rfl) h
theorem nxB_C {w w' : mW} (h : sC w w') {n : Int} (hP : nxB w n) : nxB w' n := by
  have h9 : nxB w' n = nxB w n := C_of (fun w => nxB w n) (fun _ => rfl) h
  rw [h9]; exact hP
theorem st_next {w : mW} {k : Nat} (hP : stP w k) (h : woI w ≠ -1) : stP (opW (woW w) (woI w) (woI w)) (k + 1) ∧ k < 12 := by
  obtain ⟨h1, h2, h3, h4⟩ := hP
  obtain ⟨e, h12, hn⟩ := wk_nx h1 h
  rw [e]
  have hC : sC w (cmW w (-1) 0) := cmW_C
  obtain ⟨g1, g2, g3, g4⟩ := st_C hC ⟨h1, h2, h3, h4⟩
  have hn' := nxB_C hC hn
  have e45 : cmW w (-1) 0 45 0 = w 45 0 := hC 45 0 (by decide) (by decide)
  obtain ⟨o1, o2, o3, o4, o5, o6, o7⟩ := opW_e (w := cmW w (-1) 0) (m := woI w) (told := woI w)
  exact ⟨⟨op_wk g1 hn' (by omega), by rw [o1]; omega, op_ch g1 hn' g2 g3, by rw [o5]; exact g4⟩, by omega⟩

/-! ===== the Model: what calls come to ===== -/
/-- the same but for values -/
def nrmV (w : mW) : mW := fun k i => if k = 26 ∨ k = 30 ∨ k = 31 ∨ 35 ≤ k then 0 else w k i
theorem V_of {α : Sort _} (F : mW → α) (hF : ∀ w, F (nrmV w) = F w) {w w' : mW} (h : ∀ (k : Nat) (i : Int), k ≠ 26 → k ≠ 30 → k ≠ 31 → k < 35 → w' k i = w k i) : F w' = F w := by
  rw [← hF w', ← hF w]
  congr 1
  funext k i
  unfold nrmV
  by_cases e : k = 26 ∨ k = 30 ∨ k = 31 ∨ 35 ≤ k
  · rw [if_pos e, if_pos e]
  · rw [if_neg e, if_neg e, h k i (by omega) (by omega) (by omega) (by omega)]
theorem sf_e {w : mW} {f x b : Int} (k : Nat) (i : Int) (h : k ≠ 26) (h' : k ≠ 30) : sfW w f x b k i = w k i := by
  unfold sfW; split
  · exact mset_k h
  · exact mset_k h'
theorem mV_sf {w : mW} {f x b : Int} (hV : mV w) (hw : mWF w) (h11 : w 11 0 ≤ 100) (hf : 0 ≤ f ∧ f < w 11 0 ∧ w 16 f = 1) (hb : ftB w (w 17 f) b = true) (hx : hasB w f 4 = false → 0 ≤ x) : mV (sfW w f x b) := by
  obtain ⟨v1, v2, v3, v4, v5⟩ := hV
  have e : ∀ (k : Nat) (i : Int), k ≠ 26 → k ≠ 30 → sfW w f x b k i = w k i := fun k i h h' => sf_e k i h h'
  have ef : ∀ t c, ftB (sfW w f x b) t c = ftB w t c := fun t c => ftB_27 (e 27 0 (by decide) (by decide)) t c
  refine ⟨fun s h0 h8 => ?_, fun m h0 h1 h2 => ?_, fun y m h0 h1 h2 h3 h4 => ?_, fun y k h0 h1 h2 h3 h4 => ?_, fun m h0 h1 h2 => ?_⟩
  · rw [ef, e 32 _ (by decide) (by decide), e 33 _ (by decide) (by decide)]; exact v1 s h0 h8
  · rw [e 11 _ (by decide) (by decide)] at h1
    rw [e 16 _ (by decide) (by decide)] at h2
    rw [ef, e 17 _ (by decide) (by decide)]
    have : sfW w f x b 26 m = w 26 m ∨ (m = f ∧ sfW w f x b 26 m = b) := by
      unfold sfW; split
      · by_cases em : m = f
        · right; exact ⟨em, by rw [em, mset_s]⟩
        · left; exact mset_i em
      · left; exact mset_k (by decide)
    rcases this with h | ⟨h, h'⟩
    · rw [h]; exact v2 m h0 h1 h2
    · rw [h', h]; exact hb
  · rw [e 27 _ (by decide) (by decide)] at h1
    rw [e 11 _ (by decide) (by decide)] at h3
    rw [e 16 _ (by decide) (by decide)] at h4
    rw [ef, e 17 _ (by decide) (by decide)]
    have : sfW w f x b 30 (100 * y + m) = w 30 (100 * y + m) ∨ (m = f ∧ sfW w f x b 30 (100 * y + m) = b) := by
      unfold sfW; split
      · left; exact mset_k (by decide)
      · rename_i h
        have hx0 := hx (by simpa using h)
        by_cases em : 100 * y + m = 100 * x + f
        · right; exact ⟨by omega, by rw [em, mset_s]⟩
        · left; exact mset_i em
    rcases this with h | ⟨h, h'⟩
    · rw [h]; exact v3 y m h0 h1 h2 h3 h4
    · rw [h', h]; exact hb
  · rw [e 27 _ (by decide) (by decide)] at h1
    rw [e 29 _ (by decide) (by decide)] at h4
    rw [ef, e 4 _ (by decide) (by decide), e 28 _ (by decide) (by decide), e 31 _ (by decide) (by decide)]
    exact v4 y k h0 h1 h2 h3 h4
  · rw [e 11 _ (by decide) (by decide)] at h1
    rw [e 16 _ (by decide) (by decide)] at h2
    rw [e 17 _ (by decide) (by decide)]; exact v5 m h0 h1 h2
/-- what stays through a call -/
def sG (w w' : mW) : Prop := ∀ (k : Nat) (i : Int), k ≠ 26 → k ≠ 30 → k < 35 → w' k i = w k i
theorem sG.refl {w : mW} : sG w w := fun _ _ _ _ _ => rfl
theorem sG.trans {w w' w'' : mW} (h : sG w w') (h' : sG w' w'') : sG w w'' := fun k i a b c => (h' k i a b c).trans (h k i a b c)
theorem sG_S {w w' : mW} (h : sS w w') : sG w w' := fun k i _ _ c => h k i c
theorem sG_C {w w' : mW} (h : sC w w') : sG w w' := fun k i _ _ c => h k i (by omega) (by omega)
theorem mS_G {w w' : mW} (h : sG w w') (hS : mS w) : mS w' := by rw [V_of mS (fun _ => rfl) (fun k i a b _ c => h k i a b c)]; exact hS
theorem mBd_G {w w' : mW} (h : sG w w') (hS : mBd w) : mBd w' := by rw [V_of mBd (fun _ => rfl) (fun k i a b _ c => h k i a b c)]; exact hS
theorem mTy_G {w w' : mW} (h : sG w w') (hS : mTy w) : mTy w' := by rw [V_of mTy (fun _ => rfl) (fun k i a b _ c => h k i a b c)]; exact hS
theorem mV_C {w w' : mW} (h : sC w w') (hV : mV w) : mV w' := by rw [C_of mV (fun _ => rfl) h]; exact hV
theorem flW_51 {w : mW} {k m d : Int} : flW w k m d 51 0 = k := by unfold flW; rw [mset_k (by decide), mset_k (by decide), mset_k (by decide), mset_s]
/-- what a body came to that was worked without fail -/
theorem wk_end {w : mW} (hw : mWF w) {k : Nat} (hP : stP w k) (hI : woI w = -1) (hF : woW w 51 0 = 0) : sG w (woW w) ∧ mV (woW w) ∧ (∀ k' i, 35 ≤ k' → k' ≠ 49 → k' ≠ 50 → woW w k' i = w k' i) ∧ cvB w (woW w 49 0) (w 17 (wkM w)) = true ∧ (woW w 49 0 ≠ -1 → 0 ≤ woW w 49 0 ∧ woW w 49 0 < 60 ∧ ftB w (woW w 49 0) (woW w 50 0) = true) := by
  obtain ⟨⟨hS, hV, ho, hm, hbd, ha, hs, hT⟩, hk, hc, h51⟩ := hP
  obtain ⟨hb, hbc⟩ := hbd _ hm
  have hmt := of_decide_eq_true hm
  obtain ⟨m1, m2, m3, m4⟩ := hS.M hmt.1 hmt.2.1
  have h60 := hS.B.2.1
  have h0 := hS.B.1
  obtain ⟨v, ev⟩ : ∃ v, cmW w (-1) 0 = v := ⟨_, rfl⟩
  have hC : sC w v := ev ▸ cmW_C
  have hwv : mWF v := ev ▸ cmW_wf hw ⟨by decide, by decide⟩ ⟨by decide, by decide⟩
  have v49 : v 49 0 = -1 := by rw [← ev]; unfold cmW; rw [mset_k (by decide), mset_s]
  have hSv : mS v := mS_G (sG_C hC) hS
  have hVv := mV_C hC hV
  have eA : ∀ i, wkA v i = wkA w i := fun i => C_of (fun w => wkA w i) (fun _ => rfl) hC
  have key : ∀ t b, (t = -1 ∨ (0 ≤ t ∧ t < 60 ∧ ftB w t b = true)) → cvB w t (w 17 (wkM w)) = true → woW w = cmW v t b → (sG w (woW w) ∧ mV (woW w) ∧ (∀ k' i, 35 ≤ k' → k' ≠ 49 → k' ≠ 50 → woW w k' i = w k' i) ∧ cvB w (woW w 49 0) (w 17 (wkM w)) = true ∧ (woW w 49 0 ≠ -1 → 0 ≤ woW w 49 0 ∧ woW w 49 0 < 60 ∧ ftB w (woW w 49 0) (woW w 50 0) = true)) := by
    intro t b h1 h2 e
    have hC2 : sC w (cmW v t b) := fun k i a c => (cmW_C (w := v) k i a c).trans (hC k i a c)
    have e49 : cmW v t b 49 0 = t := by unfold cmW; rw [mset_k (by decide), mset_s]
    have e50 : cmW v t b 50 0 = b := by unfold cmW; rw [mset_s]
    rw [e, e49, e50]
    exact ⟨sG_C hC2, mV_C hC2 hV, fun k' i _ a c => hC2 k' i a c, h2, fun h => by rcases h1 with h1 | h1; exact absurd h1 h; exact h1⟩
  have bad : ∀ q m d, q ≠ 0 → woW w = flW v q m d → False := fun q m d hq e => by rw [e, flW_51] at hF; exact hq hF
  have hW : woW w = wkW v (wkM w) (w 22 (wkM w)) (w 23 (wkM w)) (w 24 (wkM w)) := by rw [woW, ev]
  have hWI : woI w = wkI v (wkM w) (w 22 (wkM w)) (w 23 (wkM w)) (w 24 (wkM w)) := by rw [woI, ev]
  rw [hWI] at hI
  unfold bfC at hbc
  unfold bfB at hb
  have hcv : ∀ t, bdC w (wkM w) (w 22 (wkM w)) (w 23 (wkM w)) (w 24 (wkM w)) = t → cvB w t (w 17 (wkM w)) = true := by
    intro t e
    rw [e] at hbc
    unfold cvB
    simp only [Bool.or_eq_true, decide_eq_true_eq] at hbc ⊢
    rcases hbc with (c | c) | c
    · exact Or.inl (Or.inl (Or.inl c))
    · exact Or.inl (Or.inl (Or.inr c))
    · exact Or.inr c
  generalize ek : w 22 (wkM w) = kk at *
  generalize ex : w 23 (wkM w) = x at *
  generalize ey : w 24 (wkM w) = y at *
  simp only at hb
  have none : woW w = v → (sG w (woW w) ∧ mV (woW w) ∧ (∀ k' i, 35 ≤ k' → k' ≠ 49 → k' ≠ 50 → woW w k' i = w k' i) ∧ cvB w (woW w 49 0) (w 17 (wkM w)) = true ∧ (woW w 49 0 ≠ -1 → 0 ≤ woW w 49 0 ∧ woW w 49 0 < 60 ∧ ftB w (woW w 49 0) (woW w 50 0) = true)) := by
    intro e
    rw [e, v49]
    exact ⟨sG_C hC, hVv, fun k' i _ a c => hC k' i a c, by unfold cvB; simp, fun h => absurd rfl h⟩
  by_cases k0 : kk = 0
  · subst k0; exact none (by rw [hW]; rfl)
  rw [if_neg k0] at hb
  by_cases k1 : kk = 1
  · subst k1
    rw [if_pos rfl] at hb
    have hx := of_decide_eq_true hb
    refine key (w 19 (3 * wkM w + x)) (wkA w x) (Or.inr ?_) (hcv _ (by unfold bdC; rw [if_pos rfl])) (by rw [hW, ← eA x, ← hC 19 _ (by decide) (by decide)]; rfl)
    have := m4 x hx.1 hx.2
    exact ⟨this.1, by omega, ag_ft (ha x hx.1 hx.2)⟩
  rw [if_neg k1] at hb
  by_cases k2 : kk = 2
  · subst k2
    rw [if_pos rfl, Bool.and_eq_true] at hb
    have hx := of_decide_eq_true hb.1
    have h17 := hV.2.2.2.2 x hx.1 hx.2.1 hx.2.2
    have h17' := (hS.M hx.1 hx.2.1).2.2.1
    have efv : fvL v x (v 48 0) = fvL w x (w 48 0) := C_of (fun w => fvL w x (w 48 0)) (fun _ => rfl) hC
    refine key (w 17 x) (fvL w x (w 48 0)) (Or.inr ⟨h17, by omega, ?_⟩) (hcv _ (by unfold bdC; rw [if_neg (by decide), if_pos rfl])) (by rw [hW, ← efv, ← hC 17 _ (by decide) (by decide)]; rfl)
    unfold fvL
    by_cases h4 : hasB w x 4 = true
    · rw [if_pos h4]; exact hV.2.1 x hx.1 hx.2.1 hx.2.2
    · rw [if_neg h4]
      have hr := hb.2
      unfold reB at hr
      rw [show hasB w x 4 = false by simpa using h4] at hr
      simp at hr
      have := hs hr.1
      exact hV.2.2.1 _ x this.1 this.2 hx.1 hx.2.1 hx.2.2
  rw [if_neg k2] at hb
  by_cases k3 : kk = 3
  · subst k3
    rw [if_pos rfl] at hb
    simp only [Bool.and_eq_true] at hb
    obtain ⟨⟨⟨b1, b2⟩, b3⟩, b4⟩ := hb
    have hx := of_decide_eq_true b1
    have hy := of_decide_eq_true b2
    have hsx : hasB w x 4 = false → 0 ≤ w 48 0 := fun h => (hs (by unfold reB at b3; rw [h] at b3; simp at b3; exact b3.1)).1
    have e : woW w = sfW v x (v 48 0) (wdL (wkA v y) (v 19 (3 * wkM w + y)) (v 17 x)) := by rw [hW]; rfl
    have es : ∀ (k' : Nat) i, k' ≠ 26 → k' ≠ 30 → woW w k' i = v k' i := fun k' i a c => by rw [e]; exact sf_e k' i a c
    have hfit : ftB v (v 17 x) (wdL (wkA v y) (v 19 (3 * wkM w + y)) (v 17 x)) = true := by
      rw [ftB_27 (hC 27 0 (by decide) (by decide)), hC 17 _ (by decide) (by decide), hC 19 _ (by decide) (by decide), eA]
      exact wd_ft (ag_ft (ha y hy.1 hy.2)) b4 (m4 y hy.1 hy.2).1
    have h11 := hS.B.2.2.2.1
    refine ⟨fun k' i a c d => (es k' i a c).trans (hC k' i (by omega) (by omega)), ?_, fun k' i a c d => (es k' i (by omega) (by omega)).trans (hC k' i c d), ?_, fun h => absurd ((es 49 0 (by decide) (by decide)).trans v49) h⟩
    · rw [e]
      refine mV_sf hVv hwv (by rw [hC 11 0 (by decide) (by decide)]; exact h11) ?_ hfit ?_
      · rw [hC 11 0 (by decide) (by decide), hC 16 _ (by decide) (by decide)]; exact hx
      · intro h
        have e4 : hasB v x 4 = hasB w x 4 := C_of (fun w => hasB w x 4) (fun _ => rfl) hC
        rw [e4] at h
        rw [hC 48 0 (by decide) (by decide)]; exact hsx h
    · rw [es 49 0 (by decide) (by decide), v49]; unfold cvB; simp
  rw [if_neg k3] at hb
  by_cases k4 : kk = 4
  · subst k4
    rw [if_pos rfl] at hb
    have hx := of_decide_eq_true hb
    exact (bad x _ _ (by omega) (by rw [hW]; rfl)).elim
  rw [if_neg k4] at hb
  have hbe : ∀ (x : Int) (it : Bool), (0 ≤ x) → beI v x it = -1 → woW w = beW v x it → False := by
    intro x it hx0 h1 h2
    unfold beI at h1
    unfold beW at h2
    by_cases h12 : v 45 0 = 12
    · rw [if_pos h12] at h2; exact bad 10 _ _ (by decide) h2
    · rw [if_neg h12] at h1 h2
      by_cases hvr : vrB v x it = true
      · rw [if_pos hvr] at h1
        rw [if_pos (by rw [hvr, h1]; rfl)] at h2
        exact bad 7 _ _ (by decide) h2
      · rw [if_neg hvr] at h1; omega
  by_cases k5 : kk = 5
  · subst k5
    rw [if_pos rfl] at hb
    unfold mcF mcK at hb
    simp only [Bool.and_eq_true] at hb
    have hx := of_decide_eq_true hb.1.1.1
    exact (hbe x false hx.1 hI (by rw [hW]; rfl)).elim
  rw [if_neg k5] at hb
  by_cases k6 : kk = 6
  · subst k6
    rw [if_pos rfl, Bool.and_eq_true] at hb
    have hx := of_decide_eq_true hb.1
    have hy := of_decide_eq_true hb.2
    have fx := ft_nu (ag_ft (ha x hx.1.1 hx.1.2))
    have fy := ft_nu (ag_ft (ha y hy.1.1 hy.1.2))
    have e : woW w = adW v (wkM w) (wkA w x) (wkA w y) (w 19 (3 * wkM w + x)) (w 19 (3 * wkM w + y)) := by rw [hW, ← eA x, ← eA y, ← hC 19 _ (by decide) (by decide), ← hC 19 _ (by decide) (by decide)]; rfl
    generalize wkA w x = a at *
    generalize wkA w y = b at *
    generalize hpe : w 19 (3 * wkM w + x) = p at *
    generalize hqe : w 19 (3 * wkM w + y) = q at *
    have hsu := suI_r hx.2 hy.2
    unfold adW at e
    by_cases hB : adB (suI p q) (wdL a p (suI p q)) (wdL b q (suI p q)) = true
    · rw [if_pos hB] at e; exact (bad 2 _ _ (by decide) e).elim
    · rw [if_neg hB] at e
      refine key _ _ (Or.inr ⟨by omega, by omega, ?_⟩) (hcv _ ?_) e
      · have hsu4 : suI p q = 4 ∨ suI p q = 5 ∨ suI p q = 6 ∨ suI p q = 7 := by omega
        have hvf : 6 ≤ suI p q → vf_n64 (FP.dadd (adU (suI p q) (wdL a p (suI p q))) (adU (suI p q) (wdL b q (suI p q)))) := by
          intro h6
          have v1 := adU_vf (t := suI p q) (a := a) hsu.2.2.1 (by omega) fx
          have v2 := adU_vf (t := suI p q) (a := b) hsu.2.2.2 (by omega) fy
          obtain ⟨s1, n1, hr1, e1⟩ := fZ_of v1
          obtain ⟨s2, n2, hr2, e2⟩ := fZ_of v2
          rw [e1, e2]
          refine dadd_vf hr1 hr2 (adN_ne hr1 hr2 ?_)
          unfold adB at hB
          rw [e1, e2] at hB
          simpa [h6] using hB
        generalize suI p q = t at *
        rcases hsu4 with rfl | rfl | rfl | rfl
        · have := w32_R (wdL a p 4 + wdL b q 4)
          unfold adV ftB; rw [if_pos rfl]
          obtain ⟨r1, r2⟩ := this
          simp; omega
        · unfold ftB; simp
        · have := sJ_ok (d2f_vg (hvf (by decide)))
          have hr := sJ_R (FP.d2f (FP.dadd (adU 6 (wdL a p 6)) (adU 6 (wdL b q 6))))
          unfold adV ftB
          simp only [show ¬ ((6 : Int) = 0) from by decide, show ¬ ((6 : Int) = 1) from by decide, show ¬ ((6 : Int) = 2) from by decide, show ¬ ((6 : Int) = 3) from by decide, show ¬ ((6 : Int) = 4) from by decide, show ¬ ((6 : Int) = 5) from by decide, if_false, if_true, Bool.and_eq_true, decide_eq_true_eq]
          exact ⟨hr, this⟩
        · have := sI_ok (hvf (by decide))
          unfold adV ftB
          simp only [show ¬ ((7 : Int) = 0) from by decide, show ¬ ((7 : Int) = 1) from by decide, show ¬ ((7 : Int) = 2) from by decide, show ¬ ((7 : Int) = 3) from by decide, show ¬ ((7 : Int) = 4) from by decide, show ¬ ((7 : Int) = 5) from by decide, show ¬ ((7 : Int) = 6) from by decide, if_false, if_true, decide_eq_true_eq]
          exact this
      · unfold bdC
        rw [if_neg (by decide), if_neg (by decide), if_neg (by decide), if_pos rfl]
        rw [hpe, hqe]
  rw [if_neg k6] at hb
  by_cases k7 : kk = 7
  · subst k7
    rw [if_pos rfl] at hb
    unfold abB at hb
    simp only [Bool.and_eq_true] at hb
    have hx := of_decide_eq_true hb.2.1.1.1.1.1
    exact (hbe (v 25 (wkM w)) true (by rw [hC 25 _ (by decide) (by decide)]; exact hx.1) hI (by rw [hW]; rfl)).elim
  rw [if_neg k7] at hb
  simp only [Bool.and_eq_true] at hb
  have k8 := of_decide_eq_true hb.1.1.1.1.1
  subst k8
  have hx := of_decide_eq_true hb.1.1.1.1.2
  have hy := of_decide_eq_true hb.1.1.1.2
  have hs4 := of_decide_eq_true hb.1.1.2
  have hp := m4 x hx.1 hx.2
  have ha1 := ha x hx.1 hx.2
  have e : woW w = (if w8B v x y then cmW v (v 4 (v 19 (3 * wkM w + x))) (v 31 (20 * wkA v x + wkA v y)) else flW v (if wkA v x < 0 then 1 else 3) (wkM w) (v 45 0 - 1)) := by rw [hW]; rfl
  by_cases hB : w8B v x y = true
  · rw [if_pos hB, eA, eA, hC 19 _ (by decide) (by decide), hC 4 _ (by decide) (by decide), hC 31 _ (by decide) (by decide)] at e
    unfold w8B at hB
    rw [eA, eA, hC 29 _ (by decide) (by decide)] at hB
    simp only [Bool.and_eq_true, decide_eq_true_eq] at hB
    have hp8 : 8 ≤ w 19 (3 * wkM w + x) := Decidable.byContradiction fun h => by
      have := hT.2.2.2 (w 19 (3 * wkM w + x)) hp.1 (by omega)
      omega
    have h4 := (hS.T hp.1 hp.2).2.2.2.1
    have h8 := ft8 (ag_ft ha1) hp8
    have hX := hS.X hB.1 h8.2
    refine key _ _ (Or.inr ⟨h4.2.2 hs4, by omega, ?_⟩) (hcv _ (by unfold bdC; rw [if_neg (by decide), if_neg (by decide), if_neg (by decide), if_neg (by decide), if_pos rfl])) e
    have hx20 := hX.2.1.2
    have hv := hV.2.2.2.1 _ (wkA w y) hB.1 h8.2 hB.2.1 (by omega) (by omega)
    unfold agB at ha1
    simp only [Bool.and_eq_true, Bool.or_eq_true, decide_eq_true_eq] at ha1
    have hisa : isa w (w 28 (wkA w x)) (w 19 (3 * wkM w + x)) = true := by
      rcases ha1.2 with (c | c) | c
      · omega
      · omega
      · exact decide_eq_true c
    rcases hT.2.2.1 _ _ (by have := hX.1.1; omega) hX.1.2 hp.1 hp.2 hisa hs4 with c | c
    · rw [c] at hv; exact hv
    · have := ft8 hv c.2.1
      unfold ftB
      rw [if_neg (by omega), if_neg (by omega), if_neg (by omega), if_neg (by omega), if_neg (by omega), if_neg (by omega), if_neg (by omega), if_neg (by omega)]
      simp; omega
  · rw [if_neg hB] at e
    refine (bad _ _ _ ?_ e).elim
    split <;> omega
theorem st_cl {w : mW} (hw : mWF w) {k : Nat} (hP : stP w k) (hI : woI w = -1) (hF : woW w 51 0 = 0) : clP (woW w) k := by
  obtain ⟨h1, h2, h3, h4, h5⟩ := wk_end hw hP hI hF
  obtain ⟨hwk, hk, hc, h51⟩ := hP
  have e46 : ∀ i, woW w 46 i = w 46 i := fun i => h3 46 i (by decide) (by decide) (by decide)
  have e45 := h3 45 0 (by decide) (by decide) (by decide)
  have e17 : ∀ i, woW w 17 i = w 17 i := fun i => h1 17 i (by decide) (by decide) (by decide)
  have e8 : ∀ i, woW w 8 i = w 8 i := fun i => h1 8 i (by decide) (by decide) (by decide)
  have em : wkM (woW w) = wkM w := by unfold wkM; rw [e46, e45]
  refine ⟨mS_G h1 hwk.1, by rw [e45]; exact hk, by have := hwk.2.2.1; omega, ⟨fun j h0 hj => ?_, fun j h0 hj => ?_⟩, fun _ => ?_, fun h => ?_⟩
  · rw [mtB_e (h1 11 0 (by decide) (by decide) (by decide)) (fun i => h1 16 i (by decide) (by decide) (by decide)), e46]; exact hc.1 j h0 hj
  · rw [cvB_8 e8, e17, e17, e46, e46]; exact hc.2 j h0 hj
  · rw [cvB_8 e8, e17, em]; exact h4
  · rw [ftB_27 (h1 27 0 (by decide) (by decide) (by decide))]; exact h5 h
theorem caW_e : ∀ (n : Nat) {w : mW} (k : Nat) (i : Int), k ≠ 45 → k ≠ 49 → k ≠ 50 → caW n w k i = w k i
  | 0, _, _, _, _, _, _ => rfl
  | n + 1, w, k, i, h1, h2, h3 => (caW_e n k i h1 h2 h3).trans ((clW1_e (w := w)).1 k i h1 h2 h3)
theorem caW_cl : ∀ (n : Nat) {w : mW}, clP w n → clP (caW n w) 0
  | 0, _, h => h
  | n + 1, _, h => caW_cl n (clP_next h)
theorem caW_49 : ∀ (n : Nat) {w : mW}, clP w (n + 1) → caW (n + 1) w 49 0 = w 17 (w 46 0)
  | 0, w, h => by
    show clW1 w 49 0 = _
    rw [clW1_came.1]
    have := h.2.1
    unfold wkM
    rw [show w 45 0 - 1 = 0 by omega]
  | n + 1, w, h => by
    show caW (n + 1) (clW1 w) 49 0 = _
    have e := (clW1_e (w := w)).1
    rw [caW_49 n (clP_next h), e 17 _ (by decide) (by decide) (by decide), e 46 _ (by decide) (by decide) (by decide)]
def rnW : Nat → mW → mW
  | 0, w => w
  | n + 1, w => if woW w 51 0 = 0 ∧ woI w ≠ -1 then rnW n (opW (woW w) (woI w) (woI w)) else if woW w 51 0 = 0 then caW (woW w 45 0).toNat (woW w) else woW w
theorem woW_wf {w : mW} (hw : mWF w) (hP : wkP w) : mWF (woW w) := by
  obtain ⟨hS, hV, ho, hm, hbd, ha, hs, hT⟩ := hP
  obtain ⟨hb, hbc⟩ := hbd _ hm
  have hmt := of_decide_eq_true hm
  have h60 := hS.B.2.1
  have h100 := hS.B.2.2.2.1
  have hC : sC w (cmW w (-1) 0) := cmW_C
  have hv : mWF (cmW w (-1) 0) := cmW_wf hw ⟨by decide, by decide⟩ ⟨by decide, by decide⟩
  have e45 : cmW w (-1) 0 45 0 = w 45 0 := hC 45 0 (by decide) (by decide)
  have eA : ∀ i, wkA (cmW w (-1) 0) i = wkA w i := fun i => C_of (fun w => wkA w i) (fun _ => rfl) hC
  unfold bfB at hb
  unfold woW wkW
  generalize ek : w 22 (wkM w) = kk at *
  generalize ex : w 23 (wkM w) = x at *
  generalize ey : w 24 (wkM w) = y at *
  simp only at hb
  have hm2 : inR (wkM w) := ⟨by omega, by omega⟩
  by_cases k1 : kk = 1
  · rw [if_pos k1]; exact cmW_wf hv (hv.r _ _ rfl) (hv.l _ _)
  rw [if_neg k1]
  by_cases k2 : kk = 2
  · rw [if_pos k2]; exact cmW_wf hv (hv.r _ _ rfl) (fvL_L hv)
  rw [if_neg k2]
  by_cases k3 : kk = 3
  · rw [if_pos k3]; exact sfW_wf hv (wdL_L (hv.l _ _))
  rw [if_neg k3]
  by_cases k4 : kk = 4
  · rw [if_pos k4]; exact flW_wf hv (ex ▸ hw.r 23 (wkM w) rfl) hm2 ⟨by omega, by omega⟩
  rw [if_neg k4]
  by_cases k5 : kk = 5
  · rw [if_pos k5]; exact beW_wf hv (ex ▸ hw.r 23 (wkM w) rfl) (by omega)
  rw [if_neg k5]
  by_cases k6 : kk = 6
  · rw [if_pos k6]
    subst k6
    rw [if_neg (by decide), if_neg (by decide), if_neg (by decide), if_neg (by decide), if_neg (by decide), if_neg (by decide), if_pos rfl, Bool.and_eq_true] at hb
    have h1 := of_decide_eq_true hb.1
    have h2 := of_decide_eq_true hb.2
    refine adW_wf hv hm2 (by omega) ?_ ?_
    · rw [hC 19 _ (by decide) (by decide)]; exact h1.2
    · rw [hC 19 _ (by decide) (by decide)]; exact h2.2
  rw [if_neg k6]
  by_cases k7 : kk = 7
  · rw [if_pos k7]; exact beW_wf hv (hv.r _ _ rfl) (by omega)
  rw [if_neg k7]
  split
  · split
    · exact cmW_wf hv (hv.r _ _ rfl) (hv.l _ _)
    · refine flW_wf hv ?_ hm2 ⟨by omega, by omega⟩
      split <;> exact ⟨by decide, by decide⟩
  · exact hv
theorem flW_e {w : mW} {q m d : Int} (k : Nat) (i : Int) (h : k < 37) : flW w q m d k i = w k i := by unfold flW; rw [mset_k (by omega), mset_k (by omega), mset_k (by omega), mset_k (by omega)]
theorem beW_e {w : mW} {m : Int} {it : Bool} (k : Nat) (i : Int) (h : k < 37) : beW w m it k i = w k i := by
  unfold beW; split
  · exact flW_e k i h
  · split
    · exact flW_e k i h
    · rfl
/-- what a body's work leaves -/
theorem wo_e {w : mW} (k : Nat) (i : Int) (h : k ≠ 26) (h' : k ≠ 30) (h2 : k < 37) : woW w k i = w k i := by
  have hC : ∀ (v : mW) t b, cmW v t b k i = v k i := fun v t b => cmW_C k i (by omega) (by omega)
  unfold woW wkW
  repeat' split
  all_goals first
    | (rw [hC, hC]; done)
    | (rw [sf_e k i h h', hC]; done)
    | (rw [flW_e k i h2, hC]; done)
    | (rw [beW_e k i h2, hC]; done)
    | (unfold adW; split <;> first | (rw [flW_e k i h2, hC]; done) | (rw [hC, hC]; done))
    | (rw [hC]; done)
theorem mV_fail {w w' : mW} (h : ∀ (k : Nat) (i : Int), k < 37 → w' k i = w k i) (hV : mV w) : mV w' := mV_e (fun k i hk => h k i (by omega)) hV
theorem wo_e3 {w : mW} (h3 : w 22 (wkM w) ≠ 3) (k : Nat) (i : Int) (h2 : k < 37) : woW w k i = w k i := by
  have hC : ∀ (v : mW) t b, cmW v t b k i = v k i := fun v t b => cmW_C k i (by omega) (by omega)
  unfold woW wkW
  rw [if_neg h3]
  repeat' split
  all_goals first
    | (rw [hC, hC]; done)
    | (rw [flW_e k i h2, hC]; done)
    | (rw [beW_e k i h2, hC]; done)
    | (unfold adW; split <;> first | (rw [flW_e k i h2, hC]; done) | (rw [hC, hC]; done))
    | (rw [hC]; done)
theorem wo_3 {w : mW} (h3 : w 22 (wkM w) = 3) : woI w = -1 ∧ woW w 51 0 = w 51 0 := by
  unfold woI wkI woW wkW
  rw [h3]
  refine ⟨rfl, ?_⟩
  rw [if_neg (by decide), if_neg (by decide), if_pos rfl, sf_e 51 0 (by decide) (by decide)]
  exact cmW_C 51 0 (by decide) (by decide)
theorem wo_V {w : mW} (hw : mWF w) {k : Nat} (hP : stP w k) : mV (woW w) := by
  by_cases h3 : w 22 (wkM w) = 3
  · obtain ⟨h1, h2⟩ := wo_3 h3
    exact (wk_end hw hP h1 (by rw [h2]; exact hP.2.2.2)).2.1
  · exact mV_fail (fun k' i hk => wo_e3 h3 k' i hk) hP.1.2.1
theorem cm_51 {w : mW} {t b : Int} : cmW w t b 51 0 = w 51 0 := cmW_C 51 0 (by decide) (by decide)
theorem be_51 {w : mW} {m : Int} {it : Bool} : beW w m it 51 0 = w 51 0 ∨ beW w m it 51 0 = 10 ∨ beW w m it 51 0 = 7 := by
  unfold beW; split
  · right; left; exact flW_51
  · split
    · right; right; exact flW_51
    · left; rfl
theorem wo_51 {w : mW} {k : Nat} (hP : stP w k) : 0 ≤ woW w 51 0 ∧ woW w 51 0 ≤ 10 := by
  obtain ⟨⟨hS, hV, ho, hm, hbd, ha, hs, hT⟩, hk, hc, h51⟩ := hP
  have hb := (hbd _ hm).1
  unfold bfB at hb
  simp only at hb
  unfold woW wkW
  by_cases k1 : w 22 (wkM w) = 1
  · rw [if_pos k1, cm_51, cm_51]; omega
  rw [if_neg k1]
  by_cases k2 : w 22 (wkM w) = 2
  · rw [if_pos k2, cm_51, cm_51]; omega
  rw [if_neg k2]
  by_cases k3 : w 22 (wkM w) = 3
  · rw [if_pos k3, sf_e 51 0 (by decide) (by decide), cm_51]; omega
  rw [if_neg k3]
  by_cases k4 : w 22 (wkM w) = 4
  · rw [if_pos k4, flW_51]
    rw [if_neg (by omega), if_neg k1, if_neg k2, if_neg k3, if_pos k4] at hb
    have := of_decide_eq_true hb
    omega
  rw [if_neg k4]
  by_cases k5 : w 22 (wkM w) = 5
  · rw [if_pos k5]
    rcases be_51 (w := cmW w (-1) 0) (m := w 23 (wkM w)) (it := false) with h | h | h <;> rw [h]
    · rw [cm_51]; omega
    · decide
    · decide
  rw [if_neg k5]
  by_cases k6 : w 22 (wkM w) = 6
  · rw [if_pos k6]
    unfold adW
    split
    · rw [flW_51]; decide
    · rw [cm_51, cm_51]; omega
  rw [if_neg k6]
  by_cases k7 : w 22 (wkM w) = 7
  · rw [if_pos k7]
    rcases be_51 (w := cmW w (-1) 0) (m := cmW w (-1) 0 25 (wkM w)) (it := true) with h | h | h <;> rw [h]
    · rw [cm_51]; omega
    · decide
    · decide
  rw [if_neg k7]
  split
  · split
    · rw [cm_51, cm_51]; omega
    · rw [flW_51]; split <;> decide
  · rw [cm_51]; omega
theorem wo_G {w : mW} : sG w (woW w) := fun k i a b c => wo_e k i a b (by omega)
theorem rn_go {n : Nat} {w : mW} (hn : 1 ≤ n) (h : woW w 51 0 = 0) (h' : woI w ≠ -1) : rnW n w = rnW (n - 1) (opW (woW w) (woI w) (woI w)) := by
  obtain ⟨k, rfl⟩ : ∃ k, n = k + 1 := ⟨n - 1, by omega⟩
  simp only [rnW]; rw [if_pos ⟨h, h'⟩]; rfl
theorem rn_end {n : Nat} {w : mW} (hn : 1 ≤ n) (h : woW w 51 0 = 0) (h' : woI w = -1) : rnW n w = caW (woW w 45 0).toNat (woW w) := by
  obtain ⟨k, rfl⟩ : ∃ k, n = k + 1 := ⟨n - 1, by omega⟩
  simp only [rnW]; rw [if_neg (fun z => z.2 h'), if_pos h]
theorem rn_bad {n : Nat} {w : mW} (hn : 1 ≤ n) (h : woW w 51 0 ≠ 0) : rnW n w = woW w := by
  obtain ⟨k, rfl⟩ : ∃ k, n = k + 1 := ⟨n - 1, by omega⟩
  simp only [rnW]; rw [if_neg (fun z => h z.1), if_neg h]
theorem rn_ok : ∀ (n : Nat) {w : mW} {k : Nat}, mWF w → stP w k → 13 ≤ k + n → (0 ≤ w 35 0 ∧ w 35 0 ≤ 999900 + k) → mWF (rnW n w) ∧ sG w (rnW n w) ∧ mV (rnW n w) ∧ (w 35 0 ≤ rnW n w 35 0 ∧ rnW n w 35 0 ≤ w 35 0 + 12) ∧ (0 ≤ rnW n w 51 0 ∧ rnW n w 51 0 ≤ 10) ∧ rnW n w 36 0 = w 36 0 ∧ (rnW n w 51 0 = 0 → rnW n w 49 0 = w 17 (w 46 0) ∧ (rnW n w 49 0 ≠ -1 → ftB w (rnW n w 49 0) (rnW n w 50 0) = true)) := by
  have main : ∀ (n : Nat) {w : mW} {k : Nat}, mWF w → stP w k → 13 ≤ k + n → (0 ≤ w 35 0 ∧ w 35 0 ≤ 999900 + k) → mWF (rnW n w) ∧ sG w (rnW n w) ∧ mV (rnW n w) ∧ (w 35 0 ≤ rnW n w 35 0 ∧ rnW n w 35 0 ≤ w 35 0 + (12 - (k : Int))) ∧ (0 ≤ rnW n w 51 0 ∧ rnW n w 51 0 ≤ 10) ∧ rnW n w 36 0 = w 36 0 ∧ (rnW n w 51 0 = 0 → rnW n w 49 0 = w 17 (w 46 0) ∧ (rnW n w 49 0 ≠ -1 → ftB w (rnW n w 49 0) (rnW n w 50 0) = true)) := by
    intro n
    induction n with
    | zero => intro w k hw hP hk; have := hP.2.1; have := hP.1.2.2.1; omega
    | succ n ih =>
      intro w k hw hP hk h35
      have hk1 : 1 ≤ k ∧ k ≤ 12 := by have := hP.2.1; have := hP.1.2.2.1; omega
      have hW := woW_wf hw hP.1
      have h51 := wo_51 hP
      by_cases hF : woW w 51 0 = 0
      · by_cases hI : woI w = -1
        · rw [rn_end (by omega) hF hI]
          have hcl := st_cl hw hP hI hF
          have e45 := hcl.2.1
          rw [show (woW w 45 0).toNat = k by omega]
          obtain ⟨c1, c2, c3, c4, c5⟩ := wk_end hw hP hI hF
          have hca := caW_e k (w := woW w)
          refine ⟨caW_wf k hW hcl, c1.trans (fun k' i a b c => hca k' i (by omega) (by omega) (by omega)), ?_, ?_, ?_, ?_, fun _ => ?_⟩
          · refine mV_e (fun k' i hk' => hca k' i (by omega) (by omega) (by omega)) c2
          · rw [hca 35 0 (by decide) (by decide) (by decide), c3 35 0 (by decide) (by decide) (by decide)]; omega
          · rw [hca 51 0 (by decide) (by decide) (by decide), hF]; omega
          · rw [hca 36 0 (by decide) (by decide) (by decide), c3 36 0 (by decide) (by decide) (by decide)]
          · obtain ⟨k', rfl⟩ : ∃ k', k = k' + 1 := ⟨k - 1, by omega⟩
            have h49 := caW_49 k' hcl
            have h0 := (caW_cl _ hcl).2.2.2.2.2
            refine ⟨by rw [h49, c1 17 _ (by decide) (by decide) (by decide), c3 46 0 (by decide) (by decide) (by decide)], fun h => ?_⟩
            have := (h0 h).2.2
            rw [ftB_27 (show caW (k' + 1) (woW w) 27 0 = w 27 0 by rw [hca 27 0 (by decide) (by decide) (by decide)]; exact c1 27 0 (by decide) (by decide) (by decide))] at this
            exact this
        · rw [rn_go (by omega) hF hI]
          obtain ⟨hst, hk12⟩ := st_next hP hI
          obtain ⟨e, h12, hn⟩ := wk_nx hP.1 hI
          obtain ⟨o1, o2, o3, o4, o5, o6, o7⟩ := opW_e (w := woW w) (m := woI w) (told := woI w)
          have h35' : woW w 35 0 = w 35 0 := wo_e 35 0 (by decide) (by decide) (by decide)
          have hnr := of_decide_eq_true hn.1
          have h100 := hP.1.1.B.2.2.2.1
          have e45 : woW w 45 0 = w 45 0 := by rw [e]; exact cmW_C 45 0 (by decide) (by decide)
          have e46 : woW w 46 0 = w 46 0 := by rw [e]; exact cmW_C 46 0 (by decide) (by decide)
          have hk2 := hP.2.1
          have hwo : mWF (opW (woW w) (woI w) (woI w)) := opW_wf hW ⟨by omega, by omega⟩ (by omega) (by omega)
          obtain ⟨i1, i2, i3, i4, i5, i6, i7⟩ := ih hwo hst (by omega) (by rw [o6, h35']; omega)
          have hG : sG w (opW (woW w) (woI w) (woI w)) := (wo_G (w := w)).trans (sG_S opW_S)
          rw [show n + 1 - 1 = n from rfl]
          refine ⟨i1, hG.trans i2, i3, by rw [o6, h35'] at i4; omega, i5, ?_, fun h => ?_⟩
          · rw [i6]
            have : opW (woW w) (woI w) (woI w) 36 0 = woW w 36 0 := by unfold opW; rw [mset_k (by decide), mset_k (by decide), mset_k (by decide), opA_k (by decide)]
            rw [this]; exact wo_e 36 0 (by decide) (by decide) (by decide)
          · obtain ⟨j1, j2⟩ := i7 h
            refine ⟨?_, fun h' => ?_⟩
            · rw [j1, hG 17 _ (by decide) (by decide) (by decide), o3 0 (by omega), e46]
            · rw [← ftB_27 (hG 27 0 (by decide) (by decide) (by decide))]; exact j2 h'
      · rw [rn_bad (by omega) hF]
        refine ⟨hW, wo_G, wo_V hw hP, ?_, h51, wo_e 36 0 (by decide) (by decide) (by decide), fun h => absurd h hF⟩
        rw [wo_e 35 0 (by decide) (by decide) (by decide)]; omega
  intro n w k hw hP hk h35
  obtain ⟨a, b, c, d, e, f, g⟩ := main n hw hP hk h35
  exact ⟨a, b, c, by omega, e, f, g⟩
/-! ===== the Model: a call from its begin ===== -/
def goF (w : mW) : mW := mset (mset w 51 0 0) 45 0 0
def fr1 (w : mW) (m : Int) : mW := mset (mset (mset w 46 0 m) 45 0 1) 35 0 (w 35 0 + 1)
def goW (w : mW) (m : Int) : mW := if beI (goF w) m false = -1 then beW (goF w) m false else rnW 12 (fr1 (goF w) (beI (goF w) m false))
/-- what goes asks -/
def goP (w : mW) (m : Int) : Prop := caP w ∧ mtB w m = true ∧ (hasB w m 4 = false → 0 ≤ w 48 0 ∧ w 48 0 < w 27 0) ∧ (∀ i : Int, 0 ≤ i → i < w 18 m → agB w (w 19 (3 * m + i)) (w 47 i) = true) ∧ (0 ≤ w 35 0 ∧ w 35 0 ≤ 999900)
theorem goF_S {w : mW} : sS w (goF w) := (sS.refl.set (by omega)).set (by omega)
theorem goF_e {w : mW} (k : Nat) (i : Int) (h : k ≠ 51) (h' : k ≠ 45) : goF w k i = w k i := by unfold goF; rw [mset_k h', mset_k h]
theorem go_first {w : mW} {m : Int} (hP : goP w m) (h : beI (goF w) m false ≠ -1) : beW (goF w) m false = goF w ∧ mtB w (beI (goF w) m false) = true ∧ (beI (goF w) m false = m ∨ likeB w (beI (goF w) m false) m = true) ∧ (hasB w (beI (goF w) m false) 4 = false → 0 ≤ w 48 0 ∧ w 48 0 < w 27 0) := by
  obtain ⟨⟨hS, hV, hbd, hT⟩, hm, hs, ha, h35⟩ := hP
  have e45 : goF w 45 0 = 0 := mset_s
  unfold beI at h ⊢
  unfold beW
  simp only [e45, show ¬ ((0 : Int) = 12) from by decide, if_false] at h ⊢
  have evr : vrB (goF w) m false = vrB w m false := S_of (fun w => vrB w m false) (fun _ => rfl) goF_S
  have efo : ∀ t, foI (goF w) t m = foI w t m := fun t => S_of (fun w => foI w t m) (fun _ => rfl) goF_S
  rw [evr, efo, goF_e 48 0 (by decide) (by decide), goF_e 28 _ (by decide) (by decide)] at h ⊢
  by_cases hv : vrB w m false = true
  · rw [if_pos hv] at h ⊢
    rw [if_neg (by rw [hv]; simp; exact h)]
    have hf := foI_like h
    have hx4 : hasB w m 4 = false := by unfold vrB at hv; simp at hv; exact hv.1
    exact ⟨rfl, hf.1, Or.inr hf.2, fun _ => hs hx4⟩
  · rw [if_neg hv] at h ⊢
    rw [if_neg (by simp [hv])]
    exact ⟨rfl, hm, Or.inl rfl, hs⟩
theorem fr1_e {w : mW} {m : Int} (k : Nat) (i : Int) (h : k ≠ 45) (h' : k ≠ 46) (h2 : k ≠ 35) : fr1 w m k i = w k i := by unfold fr1; rw [mset_k h2, mset_k h, mset_k h']
theorem go_st {w : mW} {m n : Int} (hP : goP w m) (h1 : mtB w n = true) (h2 : n = m ∨ likeB w n m = true) (h3 : hasB w n 4 = false → 0 ≤ w 48 0 ∧ w 48 0 < w 27 0) : stP (fr1 (goF w) n) 1 ∧ fr1 (goF w) n 46 0 = n ∧ w 17 n = w 17 m ∧ sS w (fr1 (goF w) n) ∧ fr1 (goF w) n 35 0 = w 35 0 + 1 ∧ fr1 (goF w) n 36 0 = w 36 0 := by
  obtain ⟨⟨hS, hV, hbd, hT⟩, hm, hs, ha, h35⟩ := hP
  have hSS : sS w (fr1 (goF w) n) := ((goF_S.set (by omega)).set (by omega)).set (by omega)
  have e45 : fr1 (goF w) n 45 0 = 1 := by unfold fr1; rw [mset_k (by decide), mset_s]
  have e46 : fr1 (goF w) n 46 0 = n := by unfold fr1; rw [mset_k (by decide), mset_k (by decide), mset_s]
  have e47 : ∀ i, fr1 (goF w) n 47 i = w 47 i := fun i => by rw [fr1_e 47 i (by decide) (by decide) (by decide), goF_e 47 i (by decide) (by decide)]
  have em : wkM (fr1 (goF w) n) = n := by unfold wkM; rw [e45]; exact e46
  have l : w 17 n = w 17 m ∧ w 18 n = w 18 m ∧ ∀ i : Int, 0 ≤ i → i < w 18 n → w 19 (3 * n + i) = w 19 (3 * m + i) := by
    rcases h2 with rfl | h2
    · exact ⟨rfl, rfl, fun _ _ _ => rfl⟩
    · exact likeB_f h2
  refine ⟨⟨⟨mS_S hSS hS, mV_e hSS hV, by omega, ?_, mBd_e hSS hbd, fun i h0 hi => ?_, fun h => ?_, mTy_e hSS hT⟩, by rw [e45]; rfl, ⟨fun j h0 hj => ?_, fun j h0 hj => by omega⟩, ?_⟩, e46, l.1, hSS, ?_, ?_⟩
  · rw [em, mtB_e (hSS 11 0 (by decide)) (fun i => hSS 16 i (by decide))]; exact h1
  · rw [em] at hi ⊢
    rw [hSS 18 _ (by decide)] at hi
    rw [agB_e hSS, hSS 19 _ (by decide), l.2.2 i h0 hi]
    unfold wkA
    rw [e45, e47, show 3 * ((1 : Int) - 1) + i = i by omega]
    exact ha i h0 (by omega)
  · rw [em] at h
    have e4 : hasB (fr1 (goF w) n) n 4 = hasB w n 4 := S_of (fun w => hasB w n 4) (fun _ => rfl) hSS
    rw [e4] at h
    rw [fr1_e 48 0 (by decide) (by decide) (by decide), goF_e 48 0 (by decide) (by decide), hSS 27 0 (by decide)]
    exact h3 h
  · rw [mtB_e (hSS 11 0 (by decide)) (fun i => hSS 16 i (by decide)), show j = 0 by omega, e46]; exact h1
  · rw [fr1_e 51 0 (by decide) (by decide) (by decide)]; unfold goF; rw [mset_k (by decide), mset_s]
  · unfold fr1; rw [mset_s, goF_e 35 0 (by decide) (by decide)]
  · rw [fr1_e 36 0 (by decide) (by decide) (by decide), goF_e 36 0 (by decide) (by decide)]
theorem goF_wf {w : mW} (hw : mWF w) : mWF (goF w) := (hw.set ⟨by decide, by decide⟩ rfl).set ⟨by decide, by decide⟩ rfl
theorem fr1_wf {w : mW} {m : Int} (hw : mWF w) (hm : inR m) (h : 0 ≤ w 35 0 ∧ w 35 0 ≤ 1000000) : mWF (fr1 w m) := ((hw.set hm rfl).set ⟨by decide, by decide⟩ rfl).set ⟨by omega, by omega⟩ rfl
theorem go_ok {w : mW} {m : Int} (hw : mWF w) (hP : goP w m) : mWF (goW w m) ∧ sG w (goW w m) ∧ mV (goW w m) ∧ (w 35 0 ≤ goW w m 35 0 ∧ goW w m 35 0 ≤ w 35 0 + 13) ∧ (0 ≤ goW w m 51 0 ∧ goW w m 51 0 ≤ 10) ∧ goW w m 36 0 = w 36 0 ∧ (goW w m 51 0 = 0 → goW w m 49 0 = w 17 m ∧ (w 17 m ≠ -1 → ftB w (w 17 m) (goW w m 50 0) = true)) := by
  have hmt := of_decide_eq_true hP.2.1
  have h100 := hP.1.1.B.2.2.2.1
  have hFw := goF_wf hw
  have e45 : goF w 45 0 = 0 := mset_s
  unfold goW
  by_cases h : beI (goF w) m false = -1
  · rw [if_pos h]
    have hV' : mV (beW (goF w) m false) := mV_e (fun k i hk => (beW_e k i (by omega)).trans (goF_S k i hk)) hP.1.2.1
    refine ⟨beW_wf hFw ⟨by omega, by omega⟩ (by omega), fun k i a b c => (beW_e k i (by omega)).trans (goF_S k i c), hV', ?_, ?_, ?_, fun hF => ?_⟩
    · rw [beW_e 35 0 (by decide), goF_e 35 0 (by decide) (by decide)]; omega
    · rcases be_51 (w := goF w) (m := m) (it := false) with e | e | e <;> rw [e]
      · unfold goF; rw [mset_k (by decide), mset_s]; decide
      · decide
      · decide
    · rw [beW_e 36 0 (by decide), goF_e 36 0 (by decide) (by decide)]
    · exfalso
      unfold beI at h
      unfold beW at hF
      rw [if_neg (by rw [e45]; decide)] at h hF
      by_cases hv : vrB (goF w) m false = true
      · rw [if_pos hv] at h
        rw [if_pos (by rw [hv, h]; rfl), flW_51] at hF
        exact absurd hF (by decide)
      · rw [if_neg hv] at h; omega
  · rw [if_neg h]
    obtain ⟨g1, g2, g3, g4⟩ := go_first hP h
    have hnt := of_decide_eq_true g2
    obtain ⟨s1, s2, s3, s4, s5, s6⟩ := go_st hP g2 g3 g4
    have h35 := hP.2.2.2.2
    have hfw : mWF (fr1 (goF w) (beI (goF w) m false)) := fr1_wf hFw ⟨by omega, by omega⟩ (by rw [goF_e 35 0 (by decide) (by decide)]; omega)
    obtain ⟨r1, r2, r3, r4, r5, r6, r7⟩ := rn_ok 12 hfw s1 (by omega) (by rw [s5]; omega)
    refine ⟨r1, (sG_S s4).trans r2, r3, by rw [s5] at r4; omega, r5, by rw [r6, s6], fun hF => ?_⟩
    obtain ⟨q1, q2⟩ := r7 hF
    rw [q1, s2, s4 17 _ (by decide), s3] at q2
    rw [ftB_27 (s4 27 0 (by decide))] at q2
    exact ⟨by rw [q1, s2, s4 17 _ (by decide), s3], q2⟩

set_option maxRecDepth 100000 in
theorem k7_goes {l : Launch} {θ : zTh} {N : zMap} {am : Nat} {ar : Nat → Nat} {w : mW} (hD : mDis am ar) (hw : mWF w) (m : Int) (r_m : inR m) (hP : goP w m) : ZF θ l yX7_goes cX7_goes 4 none ⟨6, 0, 0, 141⟩ [.ref (am), .int (iI (m))] (mP θ am ar w N) none (mP θ am ar (goW w m) N) := by
  refine z_start (own := RX7) (nm := "goes") pnX7 rfl rfl (Nat.le_of_ble_eq_true rfl) ?_
  intro κ hκ hκl C
  change Z κ (mP θ am ar w N) 0 0 0 [(0, .ref (am)), (1, .int (iI (m)))] []
  refine z_aload_n C 1 0 dX7_goes_0 rfl rfl ?_
  refine z_iconst C 2 dX7_goes_1 rfl ?_
  obtain ⟨w1, ew1⟩ : ∃ wz, mset w 51 (0) (0) = wz := ⟨_, rfl⟩
  have hw1 : mWF w1 := ew1 ▸ hw.set ⟨by decide, by decide⟩ rfl
  refine m_puti (w' := w1) C hκ 5 51 (by decide) (by decide) rfl q2046 rfl rfl rfl rfl dX7_goes_2 rfl ew1 ?_
  refine z_aload_n C 6 0 dX7_goes_5 rfl rfl ?_
  refine z_iconst C 7 dX7_goes_6 rfl ?_
  obtain ⟨w2, ew2⟩ : ∃ wz, mset w1 45 (0) (0) = wz := ⟨_, rfl⟩
  have hw2 : mWF w2 := ew2 ▸ hw1.set ⟨by decide, by decide⟩ rfl
  refine m_puti (w' := w2) C hκ 10 45 (by decide) (by decide) rfl q2040 rfl rfl rfl rfl dX7_goes_7 rfl ew2 ?_
  have eF : goF w = w2 := by unfold goF; rw [ew1, ew2]
  have hcap := hP.1; have hmt := of_decide_eq_true hP.2.1; have h48F := goF_e (w := w) 48 0 (by decide) (by decide); have h27F := goF_S (w := w) 27 0 (by decide); have h11F := goF_S (w := w) 11 0 (by decide); have h45F : goF w 45 0 = 0 := mset_s; have hSF := mS_S (goF_S (w := w)) hP.1.1; rw [eF] at h48F h27F h11F h45F hSF
  refine z_aload_n C 11 0 dX7_goes_10 rfl rfl ?_
  refine z_iload_n C 12 1 dX7_goes_11 rfl rfl ?_
  refine z_iconst C 13 dX7_goes_12 rfl ?_
  refine z_callVF (n' := 0) (k' := 0) (As := [.int (iI (m)), .int (iI (0))]) (rest := []) C hκ hκl 16 (k7_begins hD hw2 (m) (false) r_m hSF (by omega) (by omega) (fun h => by rw [h48F, h27F]; exact hP.2.2.1 (by have e9 : vrB (goF w) m false = vrB w m false := S_of (fun w => vrB w m false) (fun _ => rfl) goF_S; rw [eF] at e9; rw [e9] at h; unfold vrB at h; simp at h; exact h.1))) dX7_goes_13 q2528 q2530 qs82 q97 q2531 znX7_begins (Nat.le_of_ble_eq_true rfl) (Nat.le_of_ble_eq_true rfl) (Nat.le_of_ble_eq_true rfl) (Nat.le_of_ble_eq_true rfl) mrec rfl rfl (Nat.le_of_ble_eq_true rfl) rfl rfl rfl ?_
  obtain ⟨w3, ew3⟩ : ∃ wz, (beW w2 (m) (false)) = wz := ⟨_, rfl⟩
  rw [ew3]
  have hw3 : mWF w3 := ew3 ▸ (beW_wf hw2 r_m (by omega))
  have g0F := hSF.B.2.2.1; have g1F := hSF.B.2.2.2.1; have hbr := beI_r (w := w2) (m := m) (it := false) (by omega) (by omega)
  refine z_istore_n (lv' := [(0, .ref (am)), (1, .int (iI (m))), (2, .int (iI (beI w2 (m) (false))))]) C 17 [1, 2, 0] dX7_goes_16 (by decide) rfl rfl ?_
  refine z_iload_n C 18 2 dX7_goes_17 rfl rfl ?_
  refine z_iconst C 19 dX7_goes_18 rfl ?_
  refine z_icmp_ne C 23 22 dX7_goes_19 (by decide) ⟨by omega, by omega⟩ ⟨by decide, by decide⟩ rfl (fun c1 => ?_) (fun c1 => ?_)
  · skip
    have hne : beI (goF w) m false ≠ -1 := by rw [eF]; assumption
    obtain ⟨g1, g2, g3, g4⟩ := go_first hP hne
    obtain ⟨st0, s2, s3, s4, s5, s6⟩ := go_st hP g2 g3 g4
    have h35 := hP.2.2.2.2
    have hgt := of_decide_eq_true g2
    have h100 := hP.1.1.B.2.2.2.1
    have eW : w3 = goF w := by rw [← ew3, ← eF]; exact g1
    skip
    obtain ⟨n1, en1⟩ : ∃ z, beI w2 (m) (false) = z := ⟨_, rfl⟩
    rw [en1]
    have en : beI (goF w) m false = n1 := by rw [eF]; exact en1
    rw [en] at g2 g3 g4 st0 s2 s3 s4 s5 s6 hgt
    refine z_aload_n C 24 0 dX7_goes_23 rfl rfl ?_
    refine m_geta C hκ 27 46 (by decide) rfl q2041 rfl dX7_goes_24 rfl ?_
    refine z_iconst C 28 dX7_goes_27 rfl ?_
    refine z_iload_n C 29 2 dX7_goes_28 rfl rfl ?_
    obtain ⟨w4, ew4⟩ : ∃ wz, mset w3 46 (0) (n1) = wz := ⟨_, rfl⟩
    have hw4 : mWF w4 := ew4 ▸ hw3.set ⟨by omega, by omega⟩ rfl
    refine m_iast (len := 14) (w' := w4) C hκ hD 30 46 (by decide) rfl rfl (by decide) (by decide) dX7_goes_29 rfl ew4 ?_
    refine z_aload_n C 31 0 dX7_goes_30 rfl rfl ?_
    refine z_iconst C 32 dX7_goes_31 rfl ?_
    obtain ⟨w5, ew5⟩ : ∃ wz, mset w4 45 (0) (1) = wz := ⟨_, rfl⟩
    have hw5 : mWF w5 := ew5 ▸ hw4.set ⟨by decide, by decide⟩ rfl
    refine m_puti (w' := w5) C hκ 35 45 (by decide) (by decide) rfl q2040 rfl rfl rfl rfl dX7_goes_32 rfl ew5 ?_
    have e35 : w5 35 0 = w 35 0 := by rw [← ew5, ← ew4, mset_k (by decide), mset_k (by decide), eW]; exact goF_e 35 0 (by decide) (by decide)
    refine z_aload_n C 36 0 dX7_goes_35 rfl rfl ?_
    refine z_dup C 37 dX7_goes_36 rfl rfl ?_
    refine m_geti C hκ 40 35 (by decide) rfl q2030 rfl dX7_goes_37 rfl ?_
    refine z_iconst C 41 dX7_goes_40 rfl ?_
    refine z_iadd C 42 dX7_goes_41 rfl ?_
    obtain ⟨w6, ew6⟩ : ∃ wz, mset w5 35 (0) ((w5 35 0) + (1)) = wz := ⟨_, rfl⟩
    have hw6 : mWF w6 := ew6 ▸ hw5.set ⟨by omega, by omega⟩ rfl
    refine m_puti (w' := w6) C hκ 45 35 (by decide) (by decide) rfl q2030 rfl rfl rfl rfl dX7_goes_42 rfl ew6 ?_
    have hu : fr1 (goF w) n1 = w6 := by rw [← ew6, e35, ← ew5, ← ew4, eW]; unfold fr1; rw [goF_e 35 0 (by decide) (by decide)]
    rw [hu] at st0 s5
    refine z_aload_n C 46 0 dX7_goes_45 rfl rfl ?_
    refine z_callVF (n' := 0) (k' := 0) (As := []) (rest := []) C hκ hκl 49 (k7_works hD hw6  st0.1) dX7_goes_46 q2536 q2538 qs84 q97 q2539 znX7_works (Nat.le_of_ble_eq_true rfl) (Nat.le_of_ble_eq_true rfl) (Nat.le_of_ble_eq_true rfl) (Nat.le_of_ble_eq_true rfl) mrec rfl rfl (Nat.le_of_ble_eq_true rfl) rfl rfl rfl ?_
    obtain ⟨w7, ew7⟩ : ∃ wz, (woW w6) = wz := ⟨_, rfl⟩
    rw [ew7]
    have hw7 : mWF w7 := ew7 ▸ (woW_wf hw6 st0.1)
    refine z_istore_n (lv' := [(0, .ref (am)), (1, .int (iI (m))), (2, .int (iI (n1))), (3, .int (iI (woI w6)))]) C 50 [1, 2, 3, 0] dX7_goes_49 (by decide) rfl rfl ?_
    have L50_2 : ∀ (fu : Nat) (u : mW) (f : Nat) (k : Nat) (w' : mW) (hst : stP u k) (ew : w' = woW u) (hwu : mWF u) (hR : rnW f u = goW w m) (hkf : 13 ≤ k + f) (h35u : 0 ≤ u 35 0 ∧ u 35 0 ≤ 999900 + k) (hw' : mWF w') (hme : f < fu), Z κ (mP θ am ar w' N) 0 0 50 [(0, .ref (am)), (1, .int (iI (m))), (3, .int (iI (woI u)))] [] := by
      intro fu
      induction fu with
      | zero => intro u f k w' hst ew hwu hR hkf h35u hw' hme; exact absurd hme (Nat.not_lt_zero _)
      | succ fu ih3 =>
        intro u f k w' hst ew hwu hR hkf h35u hw' hme
        have hk1 : 1 ≤ k ∧ k ≤ 12 := by have := hst.2.1; have := hst.1.2.2.1; omega
        have h100u := hst.1.1.B.2.2.2.1
        have hIr : -1 ≤ woI u ∧ woI u < 100 := by by_cases h : woI u = -1; omega; have := of_decide_eq_true (wk_nx hst.1 h).2.2.1; omega
        refine z_aload_n C 51 0 dX7_goes_50 rfl rfl ?_
        refine m_geti C hκ 54 51 (by decide) rfl q2046 rfl dX7_goes_51 rfl ?_
        refine z_if_ne C 76 57 dX7_goes_54 (by decide) (hw'.r _ _ rfl) rfl (fun c4 => ?_) (fun c4 => ?_)
        · skip
          refine z_aload_n C 77 0 dX7_goes_76 rfl rfl ?_
          refine m_geti C hκ 80 51 (by decide) rfl q2046 rfl dX7_goes_77 rfl ?_
          refine z_if_ne C 87 83 dX7_goes_80 (by decide) (hw'.r _ _ rfl) rfl (fun c5 => ?_) (fun c5 => ?_)
          · skip
            exact z_vret C dX7_goes_87 (Nat.le_of_ble_eq_true rfl) (Nat.le_of_ble_eq_true rfl) ⟨rfl, (congrArg (fun w' => mP θ am ar w' N) (by rw [← hR, rn_bad (by omega) (by rw [← ew]; omega), ew]))⟩
          · skip
            have hF0 : woW u 51 0 = 0 := by rw [← ew]; omega
            have hI0 : woI u = -1 := by omega
            have hcl : clP w' k := by rw [ew]; exact st_cl hwu hst hI0 hF0
            refine z_aload_n C 84 0 dX7_goes_83 rfl rfl ?_
            refine z_callVF0 (n' := 0) (k' := 0) (As := []) (rest := []) C hκ hκl 87 (k7_closeAll hD hw'  (by have h9 := hcl.2.1; rw [show (w' 45 0).toNat = k by omega]; exact hcl)) dX7_goes_84 q2558 q2560 qs88 q97 q2561 znX7_closeAll (Nat.le_of_ble_eq_true rfl) (Nat.le_of_ble_eq_true rfl) (Nat.le_of_ble_eq_true rfl) (Nat.le_of_ble_eq_true rfl) mrec rfl rfl (Nat.le_of_ble_eq_true rfl) rfl rfl rfl ?_
            obtain ⟨w8, ew8⟩ : ∃ wz, (caW (w' 45 0).toNat w') = wz := ⟨_, rfl⟩
            rw [ew8]
            have hw8 : mWF w8 := ew8 ▸ (caW_wf _ hw' (by have h9 := hcl.2.1; rw [show (w' 45 0).toNat = k by omega]; exact hcl))
            exact z_vret C dX7_goes_87 (Nat.le_of_ble_eq_true rfl) (Nat.le_of_ble_eq_true rfl) ⟨rfl, (congrArg (fun w' => mP θ am ar w' N) (by rw [← hR, ← ew8, rn_end (by omega) hF0 hI0, ew]))⟩
        · skip
          refine z_iload_n C 58 2 dX7_goes_57 rfl rfl ?_
          refine z_iconst C 59 dX7_goes_58 rfl ?_
          refine z_icmp_eq C 76 62 dX7_goes_59 (by decide) ⟨by omega, by omega⟩ ⟨by decide, by decide⟩ rfl (fun c6 => ?_) (fun c6 => ?_)
          · skip
            refine z_aload_n C 77 0 dX7_goes_76 rfl rfl ?_
            refine m_geti C hκ 80 51 (by decide) rfl q2046 rfl dX7_goes_77 rfl ?_
            refine z_if_ne C 87 83 dX7_goes_80 (by decide) (hw'.r _ _ rfl) rfl (fun c7 => ?_) (fun c7 => ?_)
            · skip
              exact z_vret C dX7_goes_87 (Nat.le_of_ble_eq_true rfl) (Nat.le_of_ble_eq_true rfl) ⟨rfl, (congrArg (fun w' => mP θ am ar w' N) (by rw [← hR, rn_bad (by omega) (by rw [← ew]; omega), ew]))⟩
            · skip
              have hF0 : woW u 51 0 = 0 := by rw [← ew]; omega
              have hI0 : woI u = -1 := by omega
              have hcl : clP w' k := by rw [ew]; exact st_cl hwu hst hI0 hF0
              refine z_aload_n C 84 0 dX7_goes_83 rfl rfl ?_
              refine z_callVF0 (n' := 0) (k' := 0) (As := []) (rest := []) C hκ hκl 87 (k7_closeAll hD hw'  (by have h9 := hcl.2.1; rw [show (w' 45 0).toNat = k by omega]; exact hcl)) dX7_goes_84 q2558 q2560 qs88 q97 q2561 znX7_closeAll (Nat.le_of_ble_eq_true rfl) (Nat.le_of_ble_eq_true rfl) (Nat.le_of_ble_eq_true rfl) (Nat.le_of_ble_eq_true rfl) mrec rfl rfl (Nat.le_of_ble_eq_true rfl) rfl rfl rfl ?_
              obtain ⟨w9, ew9⟩ : ∃ wz, (caW (w' 45 0).toNat w') = wz := ⟨_, rfl⟩
              rw [ew9]
              have hw9 : mWF w9 := ew9 ▸ (caW_wf _ hw' (by have h9 := hcl.2.1; rw [show (w' 45 0).toNat = k by omega]; exact hcl))
              exact z_vret C dX7_goes_87 (Nat.le_of_ble_eq_true rfl) (Nat.le_of_ble_eq_true rfl) ⟨rfl, (congrArg (fun w' => mP θ am ar w' N) (by rw [← hR, ← ew9, rn_end (by omega) hF0 hI0, ew]))⟩
          · skip
            have hF0 : woW u 51 0 = 0 := by rw [← ew]; omega
            have hI0 : woI u ≠ -1 := by assumption
            obtain ⟨nst, hk12⟩ := st_next hst hI0
            obtain ⟨e, h12, hn⟩ := wk_nx hst.1 hI0
            have hC : sC u w' := by rw [ew, e]; exact cmW_C
            have hn' := nxB_C hC hn
            have hst' := st_C hC hst
            have hnr := of_decide_eq_true hn'.1
            have hwm := of_decide_eq_true hst'.1.2.2.2.1
            have e45 := hst'.2.1
            have e35 := hC 35 0 (by decide) (by decide)
            have hfx : ∀ k : Int, 0 ≤ k → k < w' 18 (woI u) → w' 19 (3 * wkM w' + k) = 6 → 6 ≤ w' 19 (3 * woI u + k) → inR (wkA w' k) ∧ zlandd (wkA w' k) 2147483647 ≤ 2139095040 := fun k h0 h1 h6 h7 => ft6 (ag_ft (hst'.1.2.2.2.2.2.1 k h0 (by have := hn'.2.1; omega))) h6 h7
            have hrg := rn_go (n := f) (by omega) hF0 hI0
            refine z_aload_n C 63 0 dX7_goes_62 rfl rfl ?_
            refine z_iload_n C 64 2 dX7_goes_63 rfl rfl ?_
            refine z_iload_n C 65 2 dX7_goes_64 rfl rfl ?_
            refine z_callVF0 (n' := 0) (k' := 0) (As := [.int (iI (woI u)), .int (iI (woI u))]) (rest := []) C hκ hκl 68 (k7_opens hD hw' (woI u) (woI u) ⟨by omega, by omega⟩ ⟨by omega, by omega⟩ hst'.1.1 ⟨hnr.1, hnr.2.1⟩ ⟨hnr.1, hnr.2.1⟩ (by omega) ⟨hwm.1, hwm.2.1⟩ hn'.2.1 hfx (by omega)) dX7_goes_65 q2554 q2556 qs87 q97 q2557 znX7_opens (Nat.le_of_ble_eq_true rfl) (Nat.le_of_ble_eq_true rfl) (Nat.le_of_ble_eq_true rfl) (Nat.le_of_ble_eq_true rfl) mrec rfl rfl (Nat.le_of_ble_eq_true rfl) rfl rfl rfl ?_
            obtain ⟨w10, ew10⟩ : ∃ wz, (opW w' (woI u) (woI u)) = wz := ⟨_, rfl⟩
            rw [ew10]
            have hw10 : mWF w10 := ew10 ▸ (opW_wf hw' ⟨by omega, by omega⟩ (by omega) (by omega))
            have nst' : stP w10 (k + 1) := by rw [← ew10, ew]; exact nst
            have e35c : w10 35 0 = u 35 0 + 1 := by rw [← ew10, opW_e.2.2.2.2.2.1, e35]
            refine z_aload_n C 69 0 dX7_goes_68 rfl rfl ?_
            refine z_callVF (n' := 0) (k' := 0) (As := []) (rest := []) C hκ hκl 72 (k7_works hD hw10  nst'.1) dX7_goes_69 q2536 q2538 qs84 q97 q2539 znX7_works (Nat.le_of_ble_eq_true rfl) (Nat.le_of_ble_eq_true rfl) (Nat.le_of_ble_eq_true rfl) (Nat.le_of_ble_eq_true rfl) mrec rfl rfl (Nat.le_of_ble_eq_true rfl) rfl rfl rfl ?_
            obtain ⟨w11, ew11⟩ : ∃ wz, (woW w10) = wz := ⟨_, rfl⟩
            rw [ew11]
            have hw11 : mWF w11 := ew11 ▸ (woW_wf hw10 nst'.1)
            refine z_istore_n (lv' := [(0, .ref (am)), (1, .int (iI (m))), (3, .int (iI (woI w10)))]) C 73 [1, 2, 0] dX7_goes_72 (by decide) rfl rfl ?_
            refine z_goto C 50 dX7_goes_73 (by decide) ?_
            refine z_as (lv' := [(0, .ref (am)), (1, .int (iI (m))), (3, .int (iI (woI (w10))))]) rfl rfl rfl ?_
            exact ih3 (w10) (f - 1) (k + 1) (w11) nst' ew11.symm hw10 (by rw [← hR, hrg, ← ew10, ew]) (by omega) (by rw [e35c]; omega) hw11 (by omega)
    refine z_sub [0, 1, 3] (lv' := [(0, .ref (am)), (1, .int (iI (m))), (3, .int (iI (woI w6)))]) rfl ?_
    refine z_as (lv' := [(0, .ref (am)), (1, .int (iI (m))), (3, .int (iI (woI (w6))))]) rfl rfl rfl ?_
    exact L50_2 _ (w6) (12) (1) (w7) st0 ew7.symm hw6 (by unfold goW; rw [if_neg hne, en, hu]) (by omega) (by rw [s5]; omega) hw7 (Nat.lt_succ_self _)
  · skip
    exact z_vret C dX7_goes_22 (Nat.le_of_ble_eq_true rfl) (Nat.le_of_ble_eq_true rfl) ⟨rfl, (congrArg (fun w' => mP θ am ar w' N) (by unfold goW; rw [if_pos (by rw [eF]; omega), ← ew3, eF]))⟩
