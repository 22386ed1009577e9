/-! ===== a new member ===== -/
def xS2 (σ : xA) (n : Int) (a pa b r : Nat) : xA := xUp (xUp (xUp (xUp σ 20 n a) 21 n pa) 22 n b) 23 n r
section PACKM
variable {θ : zTh} {σ : xA} {w w2 : mW} {M M' : zMap} {n : Int} {a pa b r : Nat}
theorem xS2_20 : xS2 σ n a pa b r 20 n = a := by unfold xS2; rw [xUp_k (by decide), xUp_k (by decide), xUp_k (by decide), xUp_s]
theorem xS2_21 : xS2 σ n a pa b r 21 n = pa := by unfold xS2; rw [xUp_k (by decide), xUp_k (by decide), xUp_s]
theorem xS2_22 : xS2 σ n a pa b r 22 n = b := by unfold xS2; rw [xUp_k (by decide), xUp_s]
theorem xS2_23 : xS2 σ n a pa b r 23 n = r := by unfold xS2; rw [xUp_s]
theorem xS2_o {k : Nat} {i : Int} (h : ¬ (i = n ∧ (k = 20 ∨ k = 21 ∨ k = 22 ∨ k = 23))) : xS2 σ n a pa b r k i = σ k i := by
  unfold xS2 xUp
  by_cases hi : i = n
  · rw [if_neg (fun z => h ⟨hi, by omega⟩), if_neg (fun z => h ⟨hi, by omega⟩), if_neg (fun z => h ⟨hi, by omega⟩), if_neg (fun z => h ⟨hi, by omega⟩)]
  · rw [if_neg (fun z => hi z.2), if_neg (fun z => hi z.2), if_neg (fun z => hi z.2), if_neg (fun z => hi z.2)]
/-- the numbers of a new member: what changes -/
def nwM (w w2 : mW) (n : Int) : Prop := ∀ (k : Nat) (i : Int), k ≠ 11 → k ≠ 12 → ¬ (13 ≤ k ∧ k ≤ 26 ∧ k ≠ 19 ∧ i = n) → ¬ (k = 19 ∧ 3 * n ≤ i) → w2 k i = w k i
theorem nwM.k (h : nwM w w2 n) {k : Nat} (i : Int) (h1 : k < 11 ∨ 26 < k) : w2 k i = w k i := h k i (by omega) (by omega) (by omega) (by omega)
theorem nwM.i (h : nwM w w2 n) {k : Nat} {i : Int} (h1 : k ≠ 11 ∧ k ≠ 12 ∧ k ≠ 19) (h2 : i ≠ n) : w2 k i = w k i := h k i (by omega) (by omega) (by omega) (by omega)
theorem bd_ref (hbd : mBd w) {i : Int} (h0 : 0 ≤ i) (h1 : i < w 11 0) (hb : xHasBody w i = true) : (w 22 i = 2 ∨ w 22 i = 3 ∨ w 22 i = 5 → 0 ≤ w 23 i ∧ w 23 i < w 11 0) ∧ (w 22 i = 7 → 0 ≤ w 25 i ∧ w 25 i < w 11 0) := by
  have hm : mtB w i = true := by unfold xHasBody at hb; unfold mtB; simp at hb ⊢; exact ⟨h0, h1, hb.1⟩
  have h9 := (hbd i hm).1
  unfold bfB at h9
  refine ⟨fun h => ?_, fun h => ?_⟩
  · rcases h with h | h | h <;> simp [h] at h9
    · have := h9.1; unfold fdB at this; simp at this; omega
    · have := h9.1.1.1; unfold fdB at this; simp at this; omega
    · unfold mcF mcK mtB at h9; simp at h9; omega
  · simp [h] at h9
    have := h9.2; unfold abB mtB at this; simp at this; omega
theorem xBody_eq2 {σ' : xA} {w' : mW} {i n : Int} (hw : ∀ k : Nat, 22 ≤ k → k ≤ 25 → w' k i = w k i) (h0 : ∀ t, σ' 0 t = σ 0 t) (h20 : ∀ t, t ≠ n → σ' 20 t = σ 20 t) (hi : i ≠ n) (r1 : w 22 i = 2 ∨ w 22 i = 3 ∨ w 22 i = 5 → w 23 i ≠ n) (r2 : w 22 i = 7 → w 25 i ≠ n) : xBody σ' w' i = xBody σ w i := by
  unfold xBody
  simp only [hw 22 (by decide) (by decide), hw 23 (by decide) (by decide), hw 24 (by decide) (by decide), hw 25 (by decide) (by decide), h0, h20 i hi]
  split
  · rfl
  · split
    · rename_i h; rw [h20 _ (r1 (Or.inl h))]
    · split
      · rename_i h; rw [h20 _ (r1 (Or.inr (Or.inl h)))]
      · split
        · rfl
        · split
          · rename_i h; rw [h20 _ (r1 (Or.inr (Or.inr h)))]
          · split
            · rfl
            · split
              · rename_i h; rw [h20 _ (r2 h)]
              · rfl
theorem newM_pack (hs : xS w) (hbd : mBd w) (hX : xM θ σ w (xL w) M) (hn : n = w 11 0) (h11 : w2 11 0 = n + 1) (ag : nwM w w2 n)
    (hM0 : M' (σ 0 0) = some (.inr (0, [.ref (σ 1 0), .int (iI (w 0 0)), .ref (σ 2 0), .int (iI (w2 11 0)), .int (iI (w2 12 0)), .ref (σ 3 0), .int (iI (w 27 0)), .ref (σ 4 0), .ref (σ 10 (w 34 0)), .ref (σ 5 0), .ref (σ 6 0), .int (iI (w 37 0)), .int (iI (w 38 0)), .int (iI (w 39 0))])))
    (hM2 : ∃ f, M (σ 2 0) = some (.inl (θ.2.1 9, 100, xQ f)) ∧ M' (σ 2 0) = some (.inl (θ.2.1 9, 100, xQ (va_up f n.toNat (some a)))))
    (ha : M' a = some (.inr (9, xMem (xS2 σ n a pa b r) w2 n))) (hpa : ∃ f, M' pa = some (.inl (θ.2.1 8, 3, xQ f)) ∧ ∀ j : Nat, (j : Int) < w2 18 n → f j = some (σ 10 (w2 19 (3 * n + j))))
    (hb : xHasBody w2 n = true → M' b = some (xBody (xS2 σ n a pa b r) w2 n)) (hbi : xHasBody w2 n = true → w2 22 n = 0) (hr : xHasRow w2 n = true → ∃ e, M' r = some e ∧ xRow θ σ w (w2 17 n) 1 (fun _ => w2 26 n) e)
    (hfr : ∀ (c : Nat) (e : va_E), M c = some e → c ≠ σ 0 0 → c ≠ σ 2 0 → M' c = some e)
    (fa : xFr σ w (xL w) a) (fp : xFr σ w (xL w) pa) (fb : xHasBody w2 n = true → xFr σ w (xL w) b) (fr : xHasRow w2 n = true → xFr σ w (xL w) r)
    (hcl : w2 16 n = 1 → hasB w2 n 4 = false → ∀ x : Int, 0 ≤ x → x < w 27 0 → w 29 x = -1 → w2 13 n ∉ xL w (w 28 x)) : xM θ (xS2 σ n a pa b r) w2 (xL w2) M' := by
  have eL : xL w2 = xL w := xL_eq (fun i => ag.k i (by decide)) (fun i => ag.k i (by decide)) (fun i => ag.k i (by decide)) (fun i => ag.k i (by decide))
  rw [eL]
  have hB := hs.S.B
  unfold mB at hB
  have o : ∀ (k : Nat) (i : Int), k < 20 ∨ 23 < k → xS2 σ n a pa b r k i = σ k i := fun k i h => xS2_o (fun z => by omega)
  have oi : ∀ (k : Nat) (i : Int), i ≠ n → xS2 σ n a pa b r k i = σ k i := fun k i h => xS2_o (fun z => h z.1)
  have eb : ∀ i : Int, i ≠ n → xHasBody w2 i = xHasBody w i ∧ xHasRow w2 i = xHasRow w i := fun i hi => by unfold xHasBody xHasRow hasB; rw [ag.i (by decide) hi, ag.i (by decide) hi]; exact ⟨rfl, rfl⟩
  have l0 : xLv w (xL w) 0 0 := Or.inl ⟨by decide, rfl⟩
  have l2 : xLv w (xL w) 2 0 := Or.inl ⟨by decide, rfl⟩
  have lvo : ∀ (k : Nat) (i : Int), xLv w2 (xL w) k i → ¬ (i = n ∧ (k = 20 ∨ k = 21 ∨ k = 22 ∨ k = 23)) → xLv w (xL w) k i := fun k i h p => by
    unfold xLv at h ⊢
    rw [ag.k (k := 0) 0 (by decide), ag.k (k := 27) 0 (by decide), ag.k (k := 29) i (by decide), ag.k (k := 29) (i / 100) (by decide), ag.k (k := 28) (i / 100) (by decide), h11] at h
    rcases h with h | h | h | h | h | h | h | h | h | h
    · exact Or.inl h
    · exact Or.inr (Or.inl h)
    · exact Or.inr (Or.inr (Or.inl ⟨h.1, h.2.1, by omega⟩))
    · have hi : i ≠ n := fun z => p ⟨z, by omega⟩
      exact Or.inr (Or.inr (Or.inr (Or.inl ⟨h.1, h.2.1, by omega, by rw [← (eb i hi).1]; exact h.2.2.2⟩)))
    · have hi : i ≠ n := fun z => p ⟨z, by omega⟩
      exact Or.inr (Or.inr (Or.inr (Or.inr (Or.inl ⟨h.1, h.2.1, by omega, by rw [← (eb i hi).2]; exact h.2.2.2⟩))))
    · exact Or.inr (Or.inr (Or.inr (Or.inr (Or.inr (Or.inl h)))))
    · exact Or.inr (Or.inr (Or.inr (Or.inr (Or.inr (Or.inr (Or.inl h))))))
    · exact Or.inr (Or.inr (Or.inr (Or.inr (Or.inr (Or.inr (Or.inr (Or.inl h)))))))
    · obtain ⟨rfl, h1, h2, h3, h4, h5, h6, h7⟩ := h
      have hi : i % 100 ≠ n := fun z => by
        rw [z] at h5 h6 h7
        exact hcl h5 h6 (i / 100) h1 h2 h3 h7
      unfold hasB at h6
      rw [ag.i (by decide) hi] at h5 h6 h7
      exact Or.inr (Or.inr (Or.inr (Or.inr (Or.inr (Or.inr (Or.inr (Or.inr (Or.inl ⟨rfl, h1, h2, h3, by omega, h5, by unfold hasB; exact h6, h7⟩))))))))
    · exact Or.inr (Or.inr (Or.inr (Or.inr (Or.inr (Or.inr (Or.inr (Or.inr (Or.inr h))))))))
  have ne1 : a ≠ pa := fun z => by obtain ⟨f, h1, -⟩ := hpa; rw [z, h1] at ha; cases ha
  have ne2 : xHasBody w2 n = true → b ≠ a ∧ b ≠ pa := fun h => by
    have h9 := hb h
    have h10 : xBody (xS2 σ n a pa b r) w2 n = .inr (11, [.ref (xS2 σ n a pa b r 20 n), .ref (xS2 σ n a pa b r 0 0), .ref (xS2 σ n a pa b r 0 0)]) := by unfold xBody; simp only [hbi h]; rfl
    rw [h10] at h9
    exact ⟨fun z => (by rw [z, ha] at h9; cases h9), fun z => by obtain ⟨f, h1, -⟩ := hpa; rw [z, h1] at h9; cases h9⟩
  have ne3 : xHasRow w2 n = true → r ≠ a ∧ r ≠ pa := fun h => by
    obtain ⟨e, h1, h2⟩ := hr h
    have h3 : (∃ c v, e = .inl (c, 1, v)) := by
      rcases h2 with ⟨_, _, f, g1, _⟩ | ⟨_, f, g1, _⟩ | ⟨_, f, g1, _⟩ | ⟨_, f, g1, _⟩ | ⟨_, f, g1, _⟩ <;> exact ⟨_, _, g1⟩
    obtain ⟨c, v, rfl⟩ := h3
    exact ⟨fun z => (by rw [z, ha] at h1; cases h1), fun z => by obtain ⟨f, h4, -⟩ := hpa; rw [z, h4] at h1; injection h1 with h1; injection h1 with h1; injection h1 with _ h1; injection h1 with h1 _; exact absurd h1 (by decide)⟩
  have ex : xHasBody w2 n = true → xHasRow w2 n = true → False := fun h1 h2 => by unfold xHasBody at h1; unfold xHasRow at h2; simp at h1 h2; exact h1.1 h2.1
  refine hX.upd (fun k i => (k = 0 ∨ k = 2) ∨ (i = n ∧ (k = 20 ∨ k = 21 ∨ k = 22 ∨ k = 23))) (fun k i h p => ?_) (fun k i h p => ?_) (fun k i k' j h p h' e => ?_)
  · have hl := lvo k i h (fun z => p (Or.inr z))
    refine ⟨hl, xS2_o (fun z => p (Or.inr z)), ?_, fun e h9 => ?_⟩
    · obtain ⟨e, h1, -⟩ := hX.2 k i hl
      rw [h1]
      exact hfr _ _ h1 (fun z => p (Or.inl (Or.inl (hX.1 _ _ _ _ hl l0 z).1))) (fun z => p (Or.inl (Or.inr (hX.1 _ _ _ _ hl l2 z).1)))
    · rcases xLv_k hl with rfl | rfl | rfl | rfl | rfl | rfl | rfl | rfl | rfl | rfl | rfl | rfl | rfl | rfl | rfl | rfl | rfl | rfl | rfl | rfl
      · exact absurd (Or.inl (Or.inl rfl)) p
      · obtain ⟨f, g1, g2⟩ := h9
        exact ⟨f, g1, fun j hj => by rw [o 10 _ (by decide)]; rw [ag.k 0 (by decide)] at hj; exact g2 j hj⟩
      · exact absurd (Or.inl (Or.inr rfl)) p
      · obtain ⟨f, g1, g2⟩ := h9
        exact ⟨f, g1, fun j hj => by rw [o 30 _ (by decide)]; rw [ag.k 0 (by decide)] at hj; exact g2 j hj⟩
      · obtain ⟨f, g1, g2⟩ := h9
        exact ⟨f, g1, fun j hj => by rw [o 40 _ (by decide)]; exact g2 j hj⟩
      · exact (show e = _ from h9).trans (by rw [ag.k 0 (by decide)])
      · exact (show e = _ from h9).trans (by rw [ag.k 0 (by decide)])
      · refine (show e = _ from h9).trans ?_
        rw [xTyG_eq (σ := σ) (w := w) (fun k hk h9 => ag.k i (by omega)) (o 11 _ (by decide)) (o 12 _ (by decide)) (o 13 _ (by decide)) (o 10 _ (by decide)) (fun _ => o 10 _ (by decide)) (fun _ => o 10 _ (by decide)) (fun _ => o 10 _ (by decide))]
        unfold xci; rw [ag.k i (by decide)]
      · obtain ⟨f, g1, g2⟩ := h9
        exact ⟨f, g1, fun j hj => by rw [o 10 _ (by decide), ag.k _ (by decide)]; rw [ag.k i (by decide)] at hj; exact g2 j hj⟩
      · obtain ⟨f, g1, g2⟩ := h9
        exact ⟨f, g1, fun j c hj => by rw [o 10 _ (by decide)]; exact g2 j c hj⟩
      · exact h9
      · have hi : i ≠ n := fun z => p (Or.inr ⟨z, Or.inl rfl⟩)
        refine (show e = _ from h9).trans (congrArg (fun z9 => (Sum.inr (9, z9) : va_E)) ?_)
        unfold xMem mb xo
        rw [(eb i hi).1, (eb i hi).2, ag.i (by decide) hi, ag.i (by decide) hi, ag.i (by decide) hi, ag.i (by decide) hi, ag.i (by decide) hi, ag.i (by decide) hi, ag.i (by decide) hi, ag.i (by decide) hi, o 10 _ (by decide), o 10 _ (by decide), oi 21 i hi, oi 22 i hi, oi 23 i hi]
      · have hi : i ≠ n := fun z => p (Or.inr ⟨z, Or.inr (Or.inl rfl)⟩)
        obtain ⟨f, g1, g2⟩ := h9
        unfold xLv at hl
        have hw := (hs.S.M (m := i) (by omega) (by omega)).2.1
        rw [← ag.i (by decide) hi] at hw
        refine ⟨f, g1, fun j hj => ?_⟩
        rw [o 10 _ (by decide), ag 19 _ (by decide) (by decide) (by omega) (by omega)]; rw [ag.i (by decide) hi] at hj; exact g2 j hj
      · have hi : i ≠ n := fun z => p (Or.inr ⟨z, Or.inr (Or.inr (Or.inl rfl))⟩)
        refine (show e = _ from h9).trans ?_
        unfold xLv at hl
        obtain ⟨q1, q2⟩ := bd_ref hbd (i := i) (by omega) (by omega) (by rcases hl with h | h | h | h | h | h | h | h | h | h <;> first | (exfalso; omega) | exact h.2.2.2)
        exact (xBody_eq2 (n := n) (fun k h1 h2 => ag.i (by omega) hi) (fun t => o 0 t (by decide)) (fun t ht => oi 20 t ht) hi (fun h => by have := q1 h; omega) (fun h => by have := q2 h; omega)).symm
      · have hi : i ≠ n := fun z => p (Or.inr ⟨z, Or.inr (Or.inr (Or.inr rfl))⟩)
        unfold xOk at h9 ⊢
        simp only [ag.i (k := 17) (by decide) hi, ag.i (k := 26) (by decide) hi]
        exact xRow_eq (ag.k _ (by decide)) (fun _ _ => rfl) (fun j _ _ _ => o 30 _ (by decide)) h9
      · refine (show e = _ from h9).trans ?_
        rw [ag.k i (by decide), ag.k i (by decide), o 10 _ (by decide), o 31 _ (by decide), o 32 _ (by decide)]
      · obtain ⟨f, g1, g2⟩ := h9
        refine ⟨f, g1, fun j hj h1 h2 h3 => ?_⟩
        unfold xLv at hl
        rw [ag.k i (by decide)] at h3
        have hj' : (j : Int) ≠ n := fun z => by
          rw [z] at h1 h2 h3
          exact hcl h1 h2 i (by omega) (by omega) (by omega) h3
        unfold hasB at h2
        rw [ag.i (by decide) hj'] at h1 h2 h3
        rw [o 33 _ (by decide)]
        exact g2 j (by omega) h1 h2 h3
      · unfold xOk at h9 ⊢
        simp only [ag.k (k := 4) _ (by decide), ag.k (k := 28) _ (by decide), ag.k (k := 29) _ (by decide), ag.k (k := 31) _ (by decide)]
        exact xRow_eq (ag.k _ (by decide)) (fun _ _ => rfl) (fun j _ _ _ => o 30 _ (by decide)) h9
      · unfold xLv at hl
        have hi : i % 100 ≠ n := by omega
        unfold xOk at h9 ⊢
        simp only [ag.i (k := 17) (by decide) hi, ag.k (k := 30) _ (by decide)]
        exact xRow_eq (ag.k _ (by decide)) (fun _ _ => rfl) (fun j _ _ _ => o 30 _ (by decide)) h9
      · refine (show e = _ from h9).trans ?_
        rw [ag.k i (by decide), ag.k i (by decide)]; unfold xo; rw [o 30 _ (by decide)]
  · rcases p with (rfl | rfl) | ⟨rfl, rfl | rfl | rfl | rfl⟩
    · have hi : i = 0 := by unfold xLv at h; omega
      subst hi
      refine ⟨_, (congrArg M' (o 0 0 (by decide))).trans hM0, ?_⟩
      show _ = _
      rw [o 1 _ (by decide), o 2 _ (by decide), o 3 _ (by decide), o 4 _ (by decide), o 5 _ (by decide), o 6 _ (by decide), o 10 _ (by decide), ag.k (k := 0) 0 (by decide), ag.k (k := 27) 0 (by decide), ag.k (k := 34) 0 (by decide), ag.k (k := 37) 0 (by decide), ag.k (k := 38) 0 (by decide), ag.k (k := 39) 0 (by decide)]
    · have hi : i = 0 := by unfold xLv at h; omega
      subst hi
      obtain ⟨f, g1, g2⟩ := hM2
      obtain ⟨e9, g3, f9, g4, g5⟩ := hX.g (k := 2) (by decide)
      rw [g1] at g3
      rw [g4] at g3
      have g6 : f = f9 := by injection g3 with g3; injection g3 with g3; injection g3 with _ g3; injection g3 with _ g3; injection g3 with g3; injection g3 with g3; injection g3 with g3; injection g3
      refine ⟨_, (congrArg M' (o 2 0 (by decide))).trans g2, _, rfl, fun j hj => ?_⟩
      rw [h11] at hj
      unfold va_up
      by_cases hjn : (j : Int) = n
      · rw [if_pos (by omega), hjn, xS2_20]
      · rw [if_neg (by omega), oi 20 _ hjn, g6]; exact g5 j (by omega)
    · exact ⟨_, by rw [xS2_20]; exact ha, rfl⟩
    · obtain ⟨f, h1, h2⟩ := hpa
      exact ⟨_, by rw [xS2_21]; exact h1, f, rfl, fun j hj => by rw [o 10 _ (by decide)]; exact h2 j hj⟩
    · have hh : xHasBody w2 i = true := by unfold xLv at h; rcases h with h | h | h | h | h | h | h | h | h | h <;> first | (exfalso; omega) | exact h.2.2.2
      exact ⟨_, by rw [xS2_22]; exact hb hh, rfl⟩
    · have hh : xHasRow w2 i = true := by unfold xLv at h; rcases h with h | h | h | h | h | h | h | h | h | h <;> first | (exfalso; omega) | exact h.2.2.2
      obtain ⟨e, h1, h2⟩ := hr hh
      exact ⟨e, by rw [xS2_23]; exact h1, xRow_eq (ag.k _ (by decide)) (fun _ _ => rfl) (fun j _ _ _ => o 30 _ (by decide)) h2⟩
  · have key : ∀ (k9 : Nat), (k9 = 20 ∨ k9 = 21 ∨ k9 = 22 ∨ k9 = 23) → xLv w2 (xL w) k9 n → xFr σ w (xL w) (xS2 σ n a pa b r k9 n) := fun k9 h9 hl => by
      rcases h9 with rfl | rfl | rfl | rfl
      · rw [xS2_20]; exact fa
      · rw [xS2_21]; exact fp
      · rw [xS2_22]; exact fb (by unfold xLv at hl; rcases hl with h | h | h | h | h | h | h | h | h | h <;> first | (exfalso; omega) | exact h.2.2.2)
      · rw [xS2_23]; exact fr (by unfold xLv at hl; rcases hl with h | h | h | h | h | h | h | h | h | h <;> first | (exfalso; omega) | exact h.2.2.2)
    have hB22 : xLv w2 (xL w) 22 n → xHasBody w2 n = true := fun hl => by unfold xLv at hl; rcases hl with h | h | h | h | h | h | h | h | h | h <;> first | (exfalso; omega) | exact h.2.2.2
    have hB23 : xLv w2 (xL w) 23 n → xHasRow w2 n = true := fun hl => by unfold xLv at hl; rcases hl with h | h | h | h | h | h | h | h | h | h <;> first | (exfalso; omega) | exact h.2.2.2
    by_cases q : i = n ∧ (k = 20 ∨ k = 21 ∨ k = 22 ∨ k = 23)
    · by_cases q' : j = n ∧ (k' = 20 ∨ k' = 21 ∨ k' = 22 ∨ k' = 23)
      · obtain ⟨rfl, q⟩ := q
        obtain ⟨rfl, q'⟩ := q'
        refine ⟨?_, rfl⟩
        rcases q with rfl | rfl | rfl | rfl <;> rcases q' with rfl | rfl | rfl | rfl <;> first | rfl | (exfalso; simp only [xS2_20, xS2_21, xS2_22, xS2_23] at e)
        · exact ne1 e
        · exact (ne2 (hB22 h')).1 e.symm
        · exact (ne3 (hB23 h')).1 e.symm
        · exact ne1 e.symm
        · exact (ne2 (hB22 h')).2 e.symm
        · exact (ne3 (hB23 h')).2 e.symm
        · exact (ne2 (hB22 h)).1 e
        · exact (ne2 (hB22 h)).2 e
        · exact ex (hB22 h) (hB23 h')
        · exact (ne3 (hB23 h)).1 e
        · exact (ne3 (hB23 h)).2 e
        · exact ex (hB22 h') (hB23 h)
      · obtain ⟨rfl, q⟩ := q
        rw [xS2_o q'] at e
        exact absurd e.symm (key k q h k' j (lvo k' j h' q'))
    · have hl := lvo k i h q
      rw [xS2_o q] at e
      by_cases q' : j = n ∧ (k' = 20 ∨ k' = 21 ∨ k' = 22 ∨ k' = 23)
      · obtain ⟨rfl, q'⟩ := q'
        exact absurd e (key k' q' h' k i hl)
      · rw [xS2_o q'] at e
        exact hX.1 k i k' j hl (lvo k' j h' q') e
theorem cc_no (hs : xS w) {t : Int} (ht : 0 ≤ t ∧ t < w 0 0) (h : ccB w t = false) : ∀ x : Int, 0 ≤ x → x < w 27 0 → w 29 x = -1 → t ∉ xL w (w 28 x) := fun x h0 h1 h2 h3 => by
  have hx := (hs.S.X h0 h1).1
  rw [xL_8 hx.1] at h3
  have h4 := (hs.1 (w 28 x) (by omega) hx.2).2 t ht.1 ht.2
  rw [xI_law hs hx.1 hx.2, decide_eq_true h3, Bool.true_or] at h4
  have h5 : ccB w t = true := anyN_t.mpr ⟨x.toNat, by omega, by rw [show ((x.toNat : Nat) : Int) = x by omega, h2, h4]; rfl⟩
  rw [h] at h5; cases h5
theorem xMem_l {σ : xA} {n t nm k y c u v f : Int} (e13 : w2 13 n = t) (e14 : w2 14 n = nm) (e15 : w2 15 n = k) (e16 : w2 16 n = f) (e17 : w2 17 n = y) (e18 : w2 18 n = c) (e20 : w2 20 n = u) (e21 : w2 21 n = v) (hf : f = 0 ∨ f = 1) (hu : u = 0 ∨ u = 1) (hv : v = 0 ∨ v = 1) : xMem (xS2 σ n a pa b r) w2 n = [.int (iI n), .ref (σ 10 t), .int (iI nm), .int (iI k), .int (iI f), va_rf (xo σ 10 y), .ref pa, .int (iI c), .int (iI u), .int (iI v), va_rf (if xHasBody w2 n then some b else none), va_rf (if xHasRow w2 n then some r else none)] := by
  have q : ∀ z : Int, z = 0 ∨ z = 1 → bI (decide (z = 1)) = z := fun z h => by rcases h with rfl | rfl <;> rfl
  unfold xMem mb xo
  rw [e13, e14, e15, e16, e17, e18, e20, e21, q f hf, q u hu, q v hv, xS2_21, xS2_22, xS2_23, xS2_o (by omega), xS2_o (by omega)]
theorem newM_put (hs : xS w) (hbd : mBd w) (hX : xM θ σ w (xL w) M) (hn : n = w 11 0) (h100 : n < 100) (h11 : w2 11 0 = n + 1) (ag : nwM w w2 n)
    (ha : M a = some (.inr (9, xMem (xS2 σ n a pa b r) w2 n))) (hpa : ∃ f, M pa = some (.inl (θ.2.1 8, 3, xQ f)) ∧ ∀ j : Nat, (j : Int) < w2 18 n → f j = some (σ 10 (w2 19 (3 * n + j))))
    (hb : xHasBody w2 n = true → M b = some (xBody (xS2 σ n a pa b r) w2 n)) (hbi : xHasBody w2 n = true → w2 22 n = 0) (hr : xHasRow w2 n = true → ∃ e, M r = some e ∧ xRow θ σ w (w2 17 n) 1 (fun _ => w2 26 n) e)
    (fa : xFr σ w (xL w) a) (fp : xFr σ w (xL w) pa) (fb : xHasBody w2 n = true → xFr σ w (xL w) b) (fr : xHasRow w2 n = true → xFr σ w (xL w) r)
    (hcl : w2 16 n = 1 → hasB w2 n 4 = false → ∀ x : Int, 0 ≤ x → x < w 27 0 → w 29 x = -1 → w2 13 n ∉ xL w (w 28 x)) :
    ∃ f, M (σ 2 0) = some (.inl (θ.2.1 9, 100, xQ f)) ∧ xM θ (xS2 σ n a pa b r) w2 (xL w2) (zup (zup M (σ 2 0) (.inl (θ.2.1 9, 100, xQ (va_up f n.toNat (some a))))) (σ 0 0) (.inr (0, [.ref (σ 1 0), .int (iI (w 0 0)), .ref (σ 2 0), .int (iI (w2 11 0)), .int (iI (w2 12 0)), .ref (σ 3 0), .int (iI (w 27 0)), .ref (σ 4 0), .ref (σ 10 (w 34 0)), .ref (σ 5 0), .ref (σ 6 0), .int (iI (w 37 0)), .int (iI (w 38 0)), .int (iI (w 39 0))]))) := by
  obtain ⟨e, g1, f, rfl, g3⟩ := hX.g (k := 2) (by decide)
  have l0 : xLv w (xL w) 0 0 := Or.inl ⟨by decide, rfl⟩
  have l2 : xLv w (xL w) 2 0 := Or.inl ⟨by decide, rfl⟩
  have n02 : σ 2 0 ≠ σ 0 0 := hX.ne l2 l0 (by decide)
  have up : ∀ {c : Nat} {e : va_E} {E0 E2 : va_E}, M c = some e → xFr σ w (xL w) c → (zup (zup M (σ 2 0) E2) (σ 0 0) E0) c = some e := fun h hf => (zup_n (fun z => hf _ _ l0 z.symm)).trans ((zup_n (fun z => hf _ _ l2 z.symm)).trans h)
  refine ⟨f, g1, newM_pack hs hbd hX hn h11 ag zup_s ⟨f, g1, (zup_n n02).trans zup_s⟩ (up ha fa) ?_ (fun h => up (hb h) (fb h)) hbi (fun h => ?_) (fun c e h h0 h2 => (zup_n h0).trans ((zup_n h2).trans h)) fa fp fb fr hcl⟩
  · obtain ⟨f9, h1, h2⟩ := hpa
    exact ⟨f9, up h1 fp, h2⟩
  · obtain ⟨e, h1, h2⟩ := hr h
    exact ⟨e, up h1 (fr h), h2⟩
end PACKM
section DWL
variable {w : mW} {t n k y : Int} {f : Bool}
theorem dW_nw : nwM w (dW w t n k y f) (w 11 0) := fun g i h1 h2 h3 h4 => by
  unfold dW mset
  by_cases e : i = w 11 0
  · subst e
    have h9 : ¬ (13 ≤ g ∧ g ≤ 26 ∧ g ≠ 19) := fun z => h3 ⟨z.1, z.2.1, z.2.2, rfl⟩
    rw [if_neg (by omega), if_neg (by omega), if_neg (by omega), if_neg (by omega), if_neg (by omega), if_neg (by omega), if_neg (by omega), if_neg (by omega), if_neg (by omega), if_neg (by omega), if_neg (by omega)]
  · rw [if_neg (fun z => e z.2), if_neg (fun z => e z.2), if_neg (fun z => e z.2), if_neg (fun z => e z.2), if_neg (fun z => e z.2), if_neg (fun z => e z.2), if_neg (fun z => e z.2), if_neg (fun z => e z.2), if_neg (fun z => e z.2), if_neg (fun z => e z.2), if_neg (fun z => h1 z.1)]
theorem dW_11 : dW w t n k y f 11 0 = w 11 0 + 1 := by unfold dW; simp [mset]
theorem dW_13 : dW w t n k y f 13 (w 11 0) = t := by unfold dW; simp [mset]
theorem dW_14 : dW w t n k y f 14 (w 11 0) = n := by unfold dW; simp [mset]
theorem dW_15 : dW w t n k y f 15 (w 11 0) = k := by unfold dW; simp [mset]
theorem dW_16 : dW w t n k y f 16 (w 11 0) = bI f := by unfold dW; simp [mset]
theorem dW_17 : dW w t n k y f 17 (w 11 0) = y := by unfold dW; simp [mset]
theorem dW_18 : dW w t n k y f 18 (w 11 0) = 0 := by unfold dW; simp [mset]
theorem dW_20 : dW w t n k y f 20 (w 11 0) = 0 := by unfold dW; simp [mset]
theorem dW_21 : dW w t n k y f 21 (w 11 0) = 0 := by unfold dW; simp [mset]
theorem dW_22 : dW w t n k y f 22 (w 11 0) = 0 := by unfold dW; simp [mset]
theorem dW_26 : dW w t n k y f 26 (w 11 0) = noneI y := by unfold dW; simp [mset]
theorem nwM_12 {w2 : mW} {v : Int} (h : nwM (mset w 12 0 v) w2 n) : nwM w w2 n := fun g i h1 h2 h3 h4 => (h g i h1 h2 h3 h4).trans (mset_k h2)
theorem fiD {v : Int} : (dW (mset w 12 0 v) t n k y f 11 0 = w 11 0 + 1 ∧ nwM w (dW (mset w 12 0 v) t n k y f) (w 11 0) ∧ dW (mset w 12 0 v) t n k y f 12 0 = v) ∧ (dW (mset w 12 0 v) t n k y f 13 (w 11 0) = t ∧ dW (mset w 12 0 v) t n k y f 14 (w 11 0) = n ∧ dW (mset w 12 0 v) t n k y f 15 (w 11 0) = k ∧ dW (mset w 12 0 v) t n k y f 16 (w 11 0) = bI f ∧ dW (mset w 12 0 v) t n k y f 17 (w 11 0) = y) ∧ (dW (mset w 12 0 v) t n k y f 18 (w 11 0) = 0 ∧ dW (mset w 12 0 v) t n k y f 20 (w 11 0) = 0 ∧ dW (mset w 12 0 v) t n k y f 21 (w 11 0) = 0 ∧ dW (mset w 12 0 v) t n k y f 22 (w 11 0) = 0 ∧ dW (mset w 12 0 v) t n k y f 26 (w 11 0) = noneI y) := by
  have e : (mset w 12 0 v) 11 0 = w 11 0 := mset_k (by decide)
  have a := @dW_11 (mset w 12 0 v) t n k y f
  have b := @dW_nw (mset w 12 0 v) t n k y f
  have c := @dW_13 (mset w 12 0 v) t n k y f
  have d := @dW_14 (mset w 12 0 v) t n k y f
  have g := @dW_15 (mset w 12 0 v) t n k y f
  have h := @dW_16 (mset w 12 0 v) t n k y f
  have i := @dW_17 (mset w 12 0 v) t n k y f
  have j := @dW_18 (mset w 12 0 v) t n k y f
  have l := @dW_20 (mset w 12 0 v) t n k y f
  have m := @dW_21 (mset w 12 0 v) t n k y f
  have o := @dW_22 (mset w 12 0 v) t n k y f
  have p := @dW_26 (mset w 12 0 v) t n k y f
  rw [e] at a b c d g h i j l m o p
  exact ⟨⟨a, nwM_12 b, (dW_k (by decide)).trans (by simp [mset])⟩, ⟨c, d, g, h, i⟩, j, l, m, o, p⟩
end DWL

set_option maxRecDepth 100000 in
theorem k9_number_r {l : Launch} {θ : zTh} {M N : zMap} (hT : zTb θ) (a : Nat) (nu : Int) (v1 : Value) (v2 : Value) (v3 : Value) (v4 : Value) (v5 : Value) (v6 : Value) (v7 : Value) (v8 : Value) (v9 : Value) (v10 : Value) (v11 : Value)  (hM : M a = some (.inr (9, [.int (iI (nu)), v1, v2, v3, v4, v5, v6, v7, v8, v9, v10, v11]))) : ZM θ l yX9_number cX9_number 1 (some .int) ⟨0, 0, 0, 0⟩ [.ref (a)] (zP θ M N) (zFn (some (.int (iI (nu)))) (zP θ M N)) := by
  refine z_start (own := RX9) (nm := "number") pnX9 rfl rfl (Nat.le_of_ble_eq_true rfl) ?_
  intro κ hκ hκl C
  change Z κ (zP θ M N) 0 0 0 [(0, .ref (a))] []
  refine z_aload_n C 1 0 dX9_number_0 rfl rfl ?_
  refine z_getf C hκ (v := .int (iI (nu))) 4 0 zk_X9 hM (by decide) q653 (Or.inl rfl) rfl dX9_number_1 rfl ?_
  exact z_iret C dX9_number_4 rfl (Nat.le_of_ble_eq_true rfl) (Nat.le_of_ble_eq_true rfl) ⟨congrArg (fun z => some (Value.int (iI z))) (rfl), rfl⟩
set_option maxRecDepth 100000 in
theorem k9_has_r {l : Launch} {θ : zTh} {M N : zMap} (hT : zTb θ) (a : Nat) (k : Int) (mk : Int) (v0 : Value) (v1 : Value) (v2 : Value) (v4 : Value) (v5 : Value) (v6 : Value) (v7 : Value) (v8 : Value) (v9 : Value) (v10 : Value) (v11 : Value) (r_k : inR k) (hM : M a = some (.inr (9, [v0, v1, v2, .int (iI (mk)), v4, v5, v6, v7, v8, v9, v10, v11]))) : ZM θ l yX9_has cX9_has 2 (some .boolean) ⟨0, 0, 0, 0⟩ [.ref (a), .int (iI (k))] (zP θ M N) (zFn (some (.int (iI (bI (decide (zand mk k ≠ 0)))))) (zP θ M N)) := by
  refine z_start (own := RX9) (nm := "has") pnX9 rfl rfl (Nat.le_of_ble_eq_true rfl) ?_
  intro κ hκ hκl C
  change Z κ (zP θ M N) 0 0 0 [(0, .ref (a)), (1, .int (iI (k)))] []
  refine z_aload_n C 1 0 dX9_has_0 rfl rfl ?_
  refine z_getf C hκ (v := .int (iI (mk))) 4 3 zk_X9 hM (by decide) q661 (Or.inl rfl) rfl dX9_has_1 rfl ?_
  refine z_iload_n C 5 1 dX9_has_4 rfl rfl ?_
  refine z_iand C 6 dX9_has_5 rfl ?_
  refine z_if_eq C 13 9 dX9_has_6 (by decide) (inR_zand _ _) rfl (fun c1 => ?_) (fun c1 => ?_)
  · skip
    refine z_iconst C 14 dX9_has_13 rfl ?_
    refine z_as (st' := [.int (iI (bI (false)))]) rfl rfl rfl ?_
    exact z_iret C dX9_has_14 (bI_nar _) (Nat.le_of_ble_eq_true rfl) (Nat.le_of_ble_eq_true rfl) ⟨congrArg (fun b => some (Value.int (iI (bI b)))) (by clear C hκ hκl ; simp_all), rfl⟩
  · skip
    refine z_iconst C 10 dX9_has_9 rfl ?_
    refine z_goto C 14 dX9_has_10 (by decide) ?_
    refine z_as (st' := [.int (iI (bI (true)))]) rfl rfl rfl ?_
    exact z_iret C dX9_has_14 (bI_nar _) (Nat.le_of_ble_eq_true rfl) (Nat.le_of_ble_eq_true rfl) ⟨congrArg (fun b => some (Value.int (iI (bI b)))) (by clear C hκ hκl ; simp_all), rfl⟩
set_option maxRecDepth 100000 in
theorem k9_init_9 {l : Launch} {θ : zTh} {M N : zMap} (hT : zTb θ) (a : Nat) (x : Int) (ty : Nat) (nm : Int) (mk : Int) (fl : Bool) (o : Option Nat) (r_x : inR x) (r_nm : inR nm) (r_mk : inR mk) (hM : M a = some (.inr (9, [.int (iI (0)), .null, .int (iI (0)), .int (iI (0)), .int (iI (0)), .null, .null, .int (iI (0)), .int (iI (0)), .int (iI (0)), .null, .null]))) : ZM θ l yX9_init cX9_init 7 none ⟨1, 1, 3, 40⟩ [.ref (a), .int (iI (x)), .ref (ty), .int (iI (nm)), .int (iI (mk)), .int (iI (bI (fl))), va_rf (o)] (zP θ M N) (fun v9 Q9 => v9 = none ∧ ∃ M' : zMap, ∃ pa : Nat, Q9 = zP θ M' N ∧ zFx a M M' ∧ M' a = some (.inr (9, [.int (iI (x)), .ref (ty), .int (iI (nm)), .int (iI (mk)), .int (iI (bI (fl))), va_rf (o), .ref (pa), .int (iI (0)), .int (iI (0)), .int (iI (0)), .null, .null])) ∧ M' pa = some (.inl (θ.2.1 8, 3, xQ (fun _ => none))) ∧ M pa = none ∧ pa ≠ a) := by
  refine z_start (own := RX9) (nm := "<init>") pnX9 rfl rfl (by cases (o) <;> exact Nat.le_of_ble_eq_true rfl) ?_
  intro κ hκ hκl C
  refine z_as (lv' := [(0, .ref (a)), (1, .int (iI (x))), (2, .ref (ty)), (3, .int (iI (nm))), (4, .int (iI (mk))), (5, .int (iI (bI (fl)))), (6, va_rf (o))]) rfl (by cases (o) <;> rfl) rfl ?_
  change Z κ (zP θ M N) 0 0 0 [(0, .ref (a)), (1, .int (iI (x))), (2, .ref (ty)), (3, .int (iI (nm))), (4, .int (iI (mk))), (5, .int (iI (bI (fl)))), (6, va_rf (o))] []
  have fx0 : zFx a M M := zFx.rf
  refine z_aload_n C 1 0 dX9_init_0 rfl rfl ?_
  refine z_objInit C 4 dX9_init_1 q651 q145 q146 (Nat.le_of_ble_eq_true rfl) (Nat.le_of_ble_eq_true rfl) rfl ?_
  refine z_aload_n C 5 0 dX9_init_4 rfl rfl ?_
  refine z_iconst C 6 dX9_init_5 rfl ?_
  refine z_anew C hκ hT 9 3 8 rfl (by decide) (by decide) q652 q148 (Nat.le_of_ble_eq_true rfl) (Nat.le_of_ble_eq_true rfl) dX9_init_6 rfl (fun a1 a1M a1N => ?_)
  refine z_widen (n' := 1) (k' := 3) (Nat.le_refl _) (Nat.le_refl _) ?_
  have ne2 : a ≠ a1 := fun z9 => by have z8 := hM; rw [z9, a1M] at z8; cases z8
  have no3 : M a1 = none := fx0.no a1M (fun z9 => ne2 z9.symm)
  obtain ⟨M1, eM1⟩ : ∃ z9 : zMap, zup M a1 (.inl (θ.2.1 8, 3, xQ (fun _ => none)) : va_E) = z9 := ⟨_, rfl⟩
  rw [eM1]
  have o4 : M1 a = some (.inr (9, [.int (iI (0)), .null, .int (iI (0)), .int (iI (0)), .int (iI (0)), .null, .null, .int (iI (0)), .int (iI (0)), .int (iI (0)), .null, .null])) := eM1 ▸ (zup_n ne2).trans hM
  have fx5 : zFx a M M1 := eM1 ▸ fx0.up (Or.inl no3)
  have o6 : M1 a1 = some (.inl (θ.2.1 8, 3, xQ (fun _ => none))) := eM1 ▸ zup_s
  refine z_putF (fs' := [.int (iI (0)), .null, .int (iI (0)), .int (iI (0)), .int (iI (0)), .null, .ref (a1), .int (iI (0)), .int (iI (0)), .int (iI (0)), .null, .null]) C hκ 12 6 zk_X9 o4 (by decide) q673 (Or.inl rfl) rfl rfl rfl rfl (Nat.le_of_ble_eq_true rfl) rfl dX9_init_9 rfl ?_
  obtain ⟨M2, eM2⟩ : ∃ z9 : zMap, zup M1 a (.inr (9, [.int (iI (0)), .null, .int (iI (0)), .int (iI (0)), .int (iI (0)), .null, .ref (a1), .int (iI (0)), .int (iI (0)), .int (iI (0)), .null, .null]) : va_E) = z9 := ⟨_, rfl⟩
  rw [eM2]
  have o7 : M2 a1 = some (.inl (θ.2.1 8, 3, xQ (fun _ => none))) := eM2 ▸ (zup_n (fun z9 => ne2 z9.symm)).trans o6
  have fx8 : zFx a M M2 := eM2 ▸ fx5.up (Or.inr rfl)
  have o9 : M2 a = some (.inr (9, [.int (iI (0)), .null, .int (iI (0)), .int (iI (0)), .int (iI (0)), .null, .ref (a1), .int (iI (0)), .int (iI (0)), .int (iI (0)), .null, .null])) := eM2 ▸ zup_s
  refine z_aload_n C 13 0 dX9_init_12 rfl rfl ?_
  refine z_iload_n C 14 1 dX9_init_13 rfl rfl ?_
  refine z_putF (fs' := [.int (iI (x)), .null, .int (iI (0)), .int (iI (0)), .int (iI (0)), .null, .ref (a1), .int (iI (0)), .int (iI (0)), .int (iI (0)), .null, .null]) C hκ 17 0 zk_X9 o9 (by decide) q653 (Or.inl rfl) rfl rfl rfl rfl (Nat.le_of_ble_eq_true rfl) rfl dX9_init_14 rfl ?_
  obtain ⟨M3, eM3⟩ : ∃ z9 : zMap, zup M2 a (.inr (9, [.int (iI (x)), .null, .int (iI (0)), .int (iI (0)), .int (iI (0)), .null, .ref (a1), .int (iI (0)), .int (iI (0)), .int (iI (0)), .null, .null]) : va_E) = z9 := ⟨_, rfl⟩
  rw [eM3]
  have o10 : M3 a1 = some (.inl (θ.2.1 8, 3, xQ (fun _ => none))) := eM3 ▸ (zup_n (fun z9 => ne2 z9.symm)).trans o7
  have fx11 : zFx a M M3 := eM3 ▸ fx8.up (Or.inr rfl)
  have o12 : M3 a = some (.inr (9, [.int (iI (x)), .null, .int (iI (0)), .int (iI (0)), .int (iI (0)), .null, .ref (a1), .int (iI (0)), .int (iI (0)), .int (iI (0)), .null, .null])) := eM3 ▸ zup_s
  refine z_aload_n C 18 0 dX9_init_17 rfl rfl ?_
  refine z_aload_n C 19 2 dX9_init_18 rfl rfl ?_
  refine z_putF (fs' := [.int (iI (x)), .ref (ty), .int (iI (0)), .int (iI (0)), .int (iI (0)), .null, .ref (a1), .int (iI (0)), .int (iI (0)), .int (iI (0)), .null, .null]) C hκ 22 1 zk_X9 o12 (by decide) q656 (Or.inl rfl) rfl rfl rfl rfl (Nat.le_of_ble_eq_true rfl) rfl dX9_init_19 rfl ?_
  obtain ⟨M4, eM4⟩ : ∃ z9 : zMap, zup M3 a (.inr (9, [.int (iI (x)), .ref (ty), .int (iI (0)), .int (iI (0)), .int (iI (0)), .null, .ref (a1), .int (iI (0)), .int (iI (0)), .int (iI (0)), .null, .null]) : va_E) = z9 := ⟨_, rfl⟩
  rw [eM4]
  have o13 : M4 a1 = some (.inl (θ.2.1 8, 3, xQ (fun _ => none))) := eM4 ▸ (zup_n (fun z9 => ne2 z9.symm)).trans o10
  have fx14 : zFx a M M4 := eM4 ▸ fx11.up (Or.inr rfl)
  have o15 : M4 a = some (.inr (9, [.int (iI (x)), .ref (ty), .int (iI (0)), .int (iI (0)), .int (iI (0)), .null, .ref (a1), .int (iI (0)), .int (iI (0)), .int (iI (0)), .null, .null])) := eM4 ▸ zup_s
  refine z_aload_n C 23 0 dX9_init_22 rfl rfl ?_
  refine z_iload_n C 24 3 dX9_init_23 rfl rfl ?_
  refine z_putF (fs' := [.int (iI (x)), .ref (ty), .int (iI (nm)), .int (iI (0)), .int (iI (0)), .null, .ref (a1), .int (iI (0)), .int (iI (0)), .int (iI (0)), .null, .null]) C hκ 27 2 zk_X9 o15 (by decide) q659 (Or.inl rfl) rfl rfl rfl rfl (Nat.le_of_ble_eq_true rfl) rfl dX9_init_24 rfl ?_
  obtain ⟨M5, eM5⟩ : ∃ z9 : zMap, zup M4 a (.inr (9, [.int (iI (x)), .ref (ty), .int (iI (nm)), .int (iI (0)), .int (iI (0)), .null, .ref (a1), .int (iI (0)), .int (iI (0)), .int (iI (0)), .null, .null]) : va_E) = z9 := ⟨_, rfl⟩
  rw [eM5]
  have o16 : M5 a1 = some (.inl (θ.2.1 8, 3, xQ (fun _ => none))) := eM5 ▸ (zup_n (fun z9 => ne2 z9.symm)).trans o13
  have fx17 : zFx a M M5 := eM5 ▸ fx14.up (Or.inr rfl)
  have o18 : M5 a = some (.inr (9, [.int (iI (x)), .ref (ty), .int (iI (nm)), .int (iI (0)), .int (iI (0)), .null, .ref (a1), .int (iI (0)), .int (iI (0)), .int (iI (0)), .null, .null])) := eM5 ▸ zup_s
  refine z_aload_n C 28 0 dX9_init_27 rfl rfl ?_
  refine z_iload C 30 4 dX9_init_28 rfl rfl ?_
  refine z_putF (fs' := [.int (iI (x)), .ref (ty), .int (iI (nm)), .int (iI (mk)), .int (iI (0)), .null, .ref (a1), .int (iI (0)), .int (iI (0)), .int (iI (0)), .null, .null]) C hκ 33 3 zk_X9 o18 (by decide) q661 (Or.inl rfl) rfl rfl rfl rfl (Nat.le_of_ble_eq_true rfl) rfl dX9_init_30 rfl ?_
  obtain ⟨M6, eM6⟩ : ∃ z9 : zMap, zup M5 a (.inr (9, [.int (iI (x)), .ref (ty), .int (iI (nm)), .int (iI (mk)), .int (iI (0)), .null, .ref (a1), .int (iI (0)), .int (iI (0)), .int (iI (0)), .null, .null]) : va_E) = z9 := ⟨_, rfl⟩
  rw [eM6]
  have o19 : M6 a1 = some (.inl (θ.2.1 8, 3, xQ (fun _ => none))) := eM6 ▸ (zup_n (fun z9 => ne2 z9.symm)).trans o16
  have fx20 : zFx a M M6 := eM6 ▸ fx17.up (Or.inr rfl)
  have o21 : M6 a = some (.inr (9, [.int (iI (x)), .ref (ty), .int (iI (nm)), .int (iI (mk)), .int (iI (0)), .null, .ref (a1), .int (iI (0)), .int (iI (0)), .int (iI (0)), .null, .null])) := eM6 ▸ zup_s
  refine z_aload_n C 34 0 dX9_init_33 rfl rfl ?_
  refine z_iload C 36 5 dX9_init_34 rfl rfl ?_
  refine z_putF (fs' := [.int (iI (x)), .ref (ty), .int (iI (nm)), .int (iI (mk)), .int (iI (bI (fl))), .null, .ref (a1), .int (iI (0)), .int (iI (0)), .int (iI (0)), .null, .null]) C hκ 39 4 zk_X9 o21 (by decide) q663 (Or.inl rfl) rfl rfl (bI_nar _) (bI_fit _) (Nat.le_of_ble_eq_true rfl) rfl dX9_init_36 rfl ?_
  obtain ⟨M7, eM7⟩ : ∃ z9 : zMap, zup M6 a (.inr (9, [.int (iI (x)), .ref (ty), .int (iI (nm)), .int (iI (mk)), .int (iI (bI (fl))), .null, .ref (a1), .int (iI (0)), .int (iI (0)), .int (iI (0)), .null, .null]) : va_E) = z9 := ⟨_, rfl⟩
  rw [eM7]
  have o22 : M7 a1 = some (.inl (θ.2.1 8, 3, xQ (fun _ => none))) := eM7 ▸ (zup_n (fun z9 => ne2 z9.symm)).trans o19
  have fx23 : zFx a M M7 := eM7 ▸ fx20.up (Or.inr rfl)
  have o24 : M7 a = some (.inr (9, [.int (iI (x)), .ref (ty), .int (iI (nm)), .int (iI (mk)), .int (iI (bI (fl))), .null, .ref (a1), .int (iI (0)), .int (iI (0)), .int (iI (0)), .null, .null])) := eM7 ▸ zup_s
  refine z_aload_n C 40 0 dX9_init_39 rfl rfl ?_
  refine z_aloadq C 42 6 dX9_init_40 rfl rfl ?_
  refine z_putF (fs' := [.int (iI (x)), .ref (ty), .int (iI (nm)), .int (iI (mk)), .int (iI (bI (fl))), va_rf (o), .ref (a1), .int (iI (0)), .int (iI (0)), .int (iI (0)), .null, .null]) C hκ 45 5 zk_X9 o24 (by decide) q667 (Or.inl rfl) rfl rfl (by cases (o) <;> rfl) (by cases (o) <;> rfl) (Nat.le_of_ble_eq_true rfl) rfl dX9_init_42 rfl ?_
  obtain ⟨M8, eM8⟩ : ∃ z9 : zMap, zup M7 a (.inr (9, [.int (iI (x)), .ref (ty), .int (iI (nm)), .int (iI (mk)), .int (iI (bI (fl))), va_rf (o), .ref (a1), .int (iI (0)), .int (iI (0)), .int (iI (0)), .null, .null]) : va_E) = z9 := ⟨_, rfl⟩
  rw [eM8]
  have o25 : M8 a1 = some (.inl (θ.2.1 8, 3, xQ (fun _ => none))) := eM8 ▸ (zup_n (fun z9 => ne2 z9.symm)).trans o22
  have fx26 : zFx a M M8 := eM8 ▸ fx23.up (Or.inr rfl)
  have o27 : M8 a = some (.inr (9, [.int (iI (x)), .ref (ty), .int (iI (nm)), .int (iI (mk)), .int (iI (bI (fl))), va_rf (o), .ref (a1), .int (iI (0)), .int (iI (0)), .int (iI (0)), .null, .null])) := eM8 ▸ zup_s
  exact z_vret C dX9_init_45 (Nat.le_of_ble_eq_true rfl) (Nat.le_of_ble_eq_true rfl) ⟨rfl, M8, a1, rfl, fx26, o27, o25, no3, (fun z9 => ne2 z9.symm)⟩
set_option maxRecDepth 100000 in
theorem k0_field {l : Launch} {θ : zTh} {σ : xA} {w : mW} {M N : zMap} (hX : xM θ σ w (xL w) M) (hs : xS w) (hw : mWF w) (hT : zTb θ) (t : Int) (n : Int) (k : Int) (y : Int) (r_t : inR t) (r_n : inR n) (r_k : inR k) (r_y : inR y)  (hUq : xUq w) (hbd : mBd w) : ZM θ l yX0_field cX0_field 7 (some .int) ⟨248, 3, 40, 2553⟩ [.ref (σ 0 (0)), .int (iI (t)), .int (iI (n)), .int (iI (k)), .int (iI (y))] (zP θ M N) (xOp θ σ N (fiI w t n k y) (fiW w t n k y)) := by
  refine z_start (own := RX0) (nm := "field") pnX0 rfl rfl (Nat.le_of_ble_eq_true rfl) ?_
  intro κ hκ hκl C
  change Z κ (zP θ M N) 0 0 0 [(0, .ref (σ 0 (0))), (1, .int (iI (t))), (2, .int (iI (n))), (3, .int (iI (k))), (4, .int (iI (y)))] []
  have hS := hs.S
  have hB := hS.B
  obtain ⟨hB1, hB2, hB3, hB4, hB5, hB6⟩ := hS.B
  have hC := hS.C
  obtain ⟨h81, h82⟩ := hs.r8
  have ge0 : zGe M M := zGe.rf
  refine z_aload_n C 1 0 dX0_field_0 rfl rfl ?_
  refine z_iload_n C 2 1 dX0_field_1 rfl rfl ?_
  refine z_callV (As := [.int (iI (t))]) (rest := []) C hκ hκl 5 (k0_isType hX hs hw hT (t) r_t) dX0_field_2 q374 q376 qs1 q90 q377 znX0_isType (Nat.le_of_ble_eq_true rfl) (Nat.le_of_ble_eq_true rfl) (Nat.le_of_ble_eq_true rfl) (Nat.le_of_ble_eq_true rfl) (zrec_P hX.o) rfl rfl (Nat.le_of_ble_eq_true rfl) rfl (fun v9 Q9 h9 => ?_)
  obtain ⟨rfl, rfl⟩ := h9
  refine z_as (st' := [.int (iI (bI (tyB w (t))))]) rfl rfl rfl ?_
  refine z_ifB_eq C 53 8 dX0_field_5 (by decide) rfl (fun c1 => ?_) (fun c1 => ?_)
  · skip
    have c1b : ¬ (0 ≤ (t) ∧ (t) < w 0 0) := of_decide_eq_false c1
    refine z_iconst C 54 dX0_field_53 rfl ?_
    exact z_iret C dX0_field_54 rfl (Nat.le_of_ble_eq_true rfl) (Nat.le_of_ble_eq_true rfl) (by have h9 : fiB w t n k y = false := (by clear C hκ hκl hS hB hB1 hB2 hB3 hB4 hB5 hB6 hC hw hX hs hT h81 h82; cases h8 : fiB w t n k y with | false => rfl | true => exact absurd h8 (by intro h8; unfold fiB at h8; simp only [Bool.and_eq_true, Bool.or_eq_true, decide_eq_true_eq, dcB, tyB] at h8; first | omega | (simp_all [tyB, dcB]; done) | (simp_all [tyB, dcB] <;> omega))); unfold fiI fiW fiO; rw [if_pos (by simp [h9]), if_neg (by simp [h9])]; exact xOp_same hX)
  · skip
    have c1b : (0 ≤ (t) ∧ (t) < w 0 0) := of_decide_eq_true c1
    refine z_aload_n C 9 0 dX0_field_8 rfl rfl ?_
    refine z_getf C hκ (v := .ref (σ 1 (0))) 12 0 zk_X0 hX.o (by decide) q325 (Or.inl rfl) rfl dX0_field_9 rfl ?_
    refine z_iload_n C 13 1 dX0_field_12 rfl rfl ?_
    refine x_aT C hκ 14 hX hs (by omega) (by omega) dX0_field_13 rfl ?_
    obtain ⟨f2a, f2b, f2c, f2d, f2e, f2f, f2g, f2h⟩ := hS.T (show 0 ≤ t by omega) (by omega)
    obtain ⟨f2i, f2j, f2k, f2l⟩ := hs.ty (show 0 ≤ t by omega) (by omega)
    refine xv_declares (rest := []) C hκ hκl hX hs hw hT (t)   ⟨(by omega), (by omega)⟩  17 dX0_field_14 q447 (Nat.le_of_ble_eq_true rfl) (Nat.le_of_ble_eq_true rfl) (Nat.le_of_ble_eq_true rfl) (Nat.le_of_ble_eq_true rfl) (Nat.le_of_ble_eq_true rfl) rfl ?_
    refine z_as (st' := [.int (iI (bI (dcB w (t))))]) rfl rfl rfl ?_
    refine z_ifB_eq C 53 20 dX0_field_17 (by decide) rfl (fun c3 => ?_) (fun c3 => ?_)
    · skip
      have c3b : ¬ (0 ≤ (t) ∧ (t) < w 0 0 ∧ (t) ≠ 8 ∧ (w 1 (t) = 1 ∨ w 1 (t) = 2 ∨ w 1 (t) = 3)) := of_decide_eq_false c3
      refine z_iconst C 54 dX0_field_53 rfl ?_
      exact z_iret C dX0_field_54 rfl (Nat.le_of_ble_eq_true rfl) (Nat.le_of_ble_eq_true rfl) (by have h9 : fiB w t n k y = false := (by clear C hκ hκl hS hB hB1 hB2 hB3 hB4 hB5 hB6 hC hw hX hs hT h81 h82 f2a f2b f2c f2d f2e f2f f2g f2h f2i f2j f2k f2l; cases h8 : fiB w t n k y with | false => rfl | true => exact absurd h8 (by intro h8; unfold fiB at h8; simp only [Bool.and_eq_true, Bool.or_eq_true, decide_eq_true_eq, dcB, tyB] at h8; first | omega | (simp_all [tyB, dcB]; done) | (simp_all [tyB, dcB] <;> omega))); unfold fiI fiW fiO; rw [if_pos (by simp [h9]), if_neg (by simp [h9])]; exact xOp_same hX)
    · skip
      have c3b : (0 ≤ (t) ∧ (t) < w 0 0 ∧ (t) ≠ 8 ∧ (w 1 (t) = 1 ∨ w 1 (t) = 2 ∨ w 1 (t) = 3)) := of_decide_eq_true c3
      refine z_iload_n C 21 2 dX0_field_20 rfl rfl ?_
      refine z_i2l C 22 dX0_field_21 r_n rfl ?_
      refine z_lconst (x := 0) C 23 dX0_field_22 rfl rfl ?_
      refine z_ldc2 (z := 19) C 26 dX0_field_23 q641 (by decide) rfl ?_
      refine z_callS (As := [.long (lI (n)), .long (lI (0)), .long (lI (19))]) (rest := []) C hκ hκl 29 (k0_isIn hT (n) (0) (19) (inR_L r_n) ⟨by decide, by decide⟩ ⟨by decide, by decide⟩) dX0_field_26 q378 q379 q90 q380 znX0_isIn (Nat.le_of_ble_eq_true rfl) (Nat.le_of_ble_eq_true rfl) (Nat.le_of_ble_eq_true rfl) (Nat.le_of_ble_eq_true rfl) rfl (Nat.le_of_ble_eq_true rfl) rfl (fun v9 Q9 h9 => ?_)
      obtain ⟨rfl, rfl⟩ := h9
      refine z_as (st' := [.int (iI (bI (decide ((0) ≤ (n) ∧ (n) ≤ (19)))))]) rfl rfl rfl ?_
      refine z_ifB_eq C 53 32 dX0_field_29 (by decide) rfl (fun c4 => ?_) (fun c4 => ?_)
      · skip
        have c4b : ¬ (((0) ≤ (n) ∧ (n) ≤ (19))) := of_decide_eq_false c4
        refine z_iconst C 54 dX0_field_53 rfl ?_
        exact z_iret C dX0_field_54 rfl (Nat.le_of_ble_eq_true rfl) (Nat.le_of_ble_eq_true rfl) (by have h9 : fiB w t n k y = false := (by clear C hκ hκl hS hB hB1 hB2 hB3 hB4 hB5 hB6 hC hw hX hs hT h81 h82 f2a f2b f2c f2d f2e f2f f2g f2h f2i f2j f2k f2l; cases h8 : fiB w t n k y with | false => rfl | true => exact absurd h8 (by intro h8; unfold fiB at h8; simp only [Bool.and_eq_true, Bool.or_eq_true, decide_eq_true_eq, dcB, tyB] at h8; first | omega | (simp_all [tyB, dcB]; done) | (simp_all [tyB, dcB] <;> omega))); unfold fiI fiW fiO; rw [if_pos (by simp [h9]), if_neg (by simp [h9])]; exact xOp_same hX)
      · skip
        have c4b : (((0) ≤ (n) ∧ (n) ≤ (19))) := of_decide_eq_true c4
        refine z_iload_n C 33 3 dX0_field_32 rfl rfl ?_
        refine z_i2l C 34 dX0_field_33 r_k rfl ?_
        refine z_lconst (x := 0) C 35 dX0_field_34 rfl rfl ?_
        refine z_ldc2 (z := 15) C 38 dX0_field_35 q642 (by decide) rfl ?_
        refine z_callS (As := [.long (lI (k)), .long (lI (0)), .long (lI (15))]) (rest := []) C hκ hκl 41 (k0_isIn hT (k) (0) (15) (inR_L r_k) ⟨by decide, by decide⟩ ⟨by decide, by decide⟩) dX0_field_38 q378 q379 q90 q380 znX0_isIn (Nat.le_of_ble_eq_true rfl) (Nat.le_of_ble_eq_true rfl) (Nat.le_of_ble_eq_true rfl) (Nat.le_of_ble_eq_true rfl) rfl (Nat.le_of_ble_eq_true rfl) rfl (fun v9 Q9 h9 => ?_)
        obtain ⟨rfl, rfl⟩ := h9
        refine z_as (st' := [.int (iI (bI (decide ((0) ≤ (k) ∧ (k) ≤ (15)))))]) rfl rfl rfl ?_
        refine z_ifB_eq C 53 44 dX0_field_41 (by decide) rfl (fun c5 => ?_) (fun c5 => ?_)
        · skip
          have c5b : ¬ (((0) ≤ (k) ∧ (k) ≤ (15))) := of_decide_eq_false c5
          refine z_iconst C 54 dX0_field_53 rfl ?_
          exact z_iret C dX0_field_54 rfl (Nat.le_of_ble_eq_true rfl) (Nat.le_of_ble_eq_true rfl) (by have h9 : fiB w t n k y = false := (by clear C hκ hκl hS hB hB1 hB2 hB3 hB4 hB5 hB6 hC hw hX hs hT h81 h82 f2a f2b f2c f2d f2e f2f f2g f2h f2i f2j f2k f2l; cases h8 : fiB w t n k y with | false => rfl | true => exact absurd h8 (by intro h8; unfold fiB at h8; simp only [Bool.and_eq_true, Bool.or_eq_true, decide_eq_true_eq, dcB, tyB] at h8; first | omega | (simp_all [tyB, dcB]; done) | (simp_all [tyB, dcB] <;> omega))); unfold fiI fiW fiO; rw [if_pos (by simp [h9]), if_neg (by simp [h9])]; exact xOp_same hX)
        · skip
          have c5b : (((0) ≤ (k) ∧ (k) ≤ (15))) := of_decide_eq_true c5
          refine z_aload_n C 45 0 dX0_field_44 rfl rfl ?_
          refine z_iload C 47 4 dX0_field_45 rfl rfl ?_
          refine z_callV (As := [.int (iI (y))]) (rest := []) C hκ hκl 50 (k0_isType hX hs hw hT (y) r_y) dX0_field_47 q374 q376 qs1 q90 q377 znX0_isType (Nat.le_of_ble_eq_true rfl) (Nat.le_of_ble_eq_true rfl) (Nat.le_of_ble_eq_true rfl) (Nat.le_of_ble_eq_true rfl) (zrec_P hX.o) rfl rfl (Nat.le_of_ble_eq_true rfl) rfl (fun v9 Q9 h9 => ?_)
          obtain ⟨rfl, rfl⟩ := h9
          refine z_as (st' := [.int (iI (bI (tyB w (y))))]) rfl rfl rfl ?_
          refine z_ifB_ne C 55 53 dX0_field_50 (by decide) rfl (fun c6 => ?_) (fun c6 => ?_)
          · skip
            have c6b : (0 ≤ (y) ∧ (y) < w 0 0) := of_decide_eq_true c6
            refine z_aload_n C 56 0 dX0_field_55 rfl rfl ?_
            refine z_getf C hκ (v := .ref (σ 1 (0))) 59 0 zk_X0 hX.o (by decide) q325 (Or.inl rfl) rfl dX0_field_56 rfl ?_
            refine z_iload_n C 60 1 dX0_field_59 rfl rfl ?_
            refine x_aT C hκ 61 hX hs (by omega) (by omega) dX0_field_60 rfl ?_
            refine z_astore (lv' := [(0, .ref (σ 0 (0))), (1, .int (iI (t))), (2, .int (iI (n))), (3, .int (iI (k))), (4, .int (iI (y))), (5, .ref (σ 10 (t)))]) C 63 [1, 2, 3, 4, 5, 0] dX0_field_61 (by decide) rfl rfl ?_
            refine z_aload C 65 5 dX0_field_63 rfl rfl ?_
            refine xv_isClass (rest := []) C hκ hκl hX hs hw hT (t)   ⟨(by omega), (by omega)⟩  68 dX0_field_65 q381 (Nat.le_of_ble_eq_true rfl) (Nat.le_of_ble_eq_true rfl) (Nat.le_of_ble_eq_true rfl) (Nat.le_of_ble_eq_true rfl) (Nat.le_of_ble_eq_true rfl) rfl ?_
            refine z_as (st' := [.int (iI (bI (clB w (t))))]) rfl rfl rfl ?_
            refine z_ifB_ne C 79 71 dX0_field_68 (by decide) rfl (fun c7 => ?_) (fun c7 => ?_)
            · skip
              have c7b : (0 ≤ (t) ∧ (t) < w 0 0 ∧ (w 1 (t) = 1 ∨ w 1 (t) = 2)) := of_decide_eq_true c7
              have hfB : fiB w t n k y = true := by clear C hκ hκl; unfold fiB; first | (simp_all; done) | (simp_all; done) | (simp_all <;> omega)
              refine z_aload_n C 80 0 dX0_field_79 rfl rfl ?_
              refine z_aload C 82 5 dX0_field_80 rfl rfl ?_
              refine z_iload_n C 83 2 dX0_field_82 rfl rfl ?_
              refine z_callV (As := [.ref (σ 10 (t)), .int (iI (n))]) (rest := []) C hκ hκl 86 (k0_ownField hX hs hw hT (t) (n) r_n ⟨by omega, by omega⟩ hUq) dX0_field_83 q643 q645 qs4 q90 q646 znX0_ownField (Nat.le_of_ble_eq_true rfl) (Nat.le_of_ble_eq_true rfl) (Nat.le_of_ble_eq_true rfl) (Nat.le_of_ble_eq_true rfl) (zrec_P hX.o) rfl rfl (Nat.le_of_ble_eq_true rfl) rfl (fun v9 Q9 h9 => ?_)
              obtain ⟨rfl, rfl⟩ := h9
              refine z_as (st' := [va_rf (xo σ 20 (ofI w (t) (n)))]) rfl rfl rfl ?_
              rcases Int.lt_or_le (ofI w (t) (n)) 0 with n8 | n8
              · skip
                rw [xo_n n8]
                refine z_as (st' := [.null]) (lv' := [(0, .ref (σ 0 (0))), (1, .int (iI (t))), (2, .int (iI (n))), (3, .int (iI (k))), (4, .int (iI (y))), (5, .ref (σ 10 (t)))]) rfl rfl rfl ?_
                refine z_ifnonnullN C 89 dX0_field_86 rfl ?_
                refine z_iload_n C 90 3 dX0_field_89 rfl rfl ?_
                refine z_iconst C 91 dX0_field_90 rfl ?_
                refine z_iand C 92 dX0_field_91 rfl ?_
                refine z_if_ne C 107 95 dX0_field_92 (by decide) (inR_zand _ _) rfl (fun c9 => ?_) (fun c9 => ?_)
                · skip
                  have hfr9 := ofI_r (w := w) (t := t) (n := n) (by omega)
                  have hfN : fiN w t n k = false := by unfold fiN; first | (simp_all; done) | (simp_all <;> omega)
                  refine z_aload_n C 108 0 dX0_field_107 rfl rfl ?_
                  refine z_getf C hκ (v := .int (iI (w 11 0))) 111 3 zk_X0 hX.o (by decide) q330 (Or.inl rfl) rfl dX0_field_108 rfl ?_
                  refine z_bipush C 113 dX0_field_111 (by decide) rfl ?_
                  refine z_icmp_ne C 119 116 dX0_field_113 (by decide) ⟨by omega, by omega⟩ ⟨by decide, by decide⟩ rfl (fun c10 => ?_) (fun c10 => ?_)
                  · skip
                    refine z_new (fs := [.int (iI (0)), .null, .int (iI (0)), .int (iI (0)), .int (iI (0)), .null, .null, .int (iI (0)), .int (iI (0)), .int (iI (0)), .null, .null]) C hκ 122 zk_X9 q149 q647 q103 (fun j9 h9 => match j9, h9 with | 0, _ => rfl | 1, _ => rfl | 2, _ => rfl | 3, _ => rfl | 4, _ => rfl | 5, _ => rfl | 6, _ => rfl | 7, _ => rfl | 8, _ => rfl | 9, _ => rfl | 10, _ => rfl | 11, _ => rfl | (j9 + 12), h9 => absurd h9 (by omega)) (Nat.le_of_ble_eq_true rfl) (Nat.le_of_ble_eq_true rfl) dX0_field_119 rfl (fun a11 a11M a11N => ?_)
                    refine z_widen (n' := 1) (k' := 12) (Nat.le_refl _) (Nat.le_refl _) ?_
                    have fr12 : xFr σ w (xL w) a11 := hX.fr a11M
                    have fr13 : M a11 = none := ge0.no a11M
                    obtain ⟨M1, eM1⟩ : ∃ z9 : zMap, zup M a11 (.inr (9, [.int (iI (0)), .null, .int (iI (0)), .int (iI (0)), .int (iI (0)), .null, .null, .int (iI (0)), .int (iI (0)), .int (iI (0)), .null, .null]) : va_E) = z9 := ⟨_, rfl⟩
                    rw [eM1]
                    have hX14 : xM θ σ w (xL w) M1 := eM1 ▸ hX.up fr12
                    have ge15 : zGe M M1 := eM1 ▸ ge0.up fr13
                    have o16 : M1 a11 = some (.inr (9, [.int (iI (0)), .null, .int (iI (0)), .int (iI (0)), .int (iI (0)), .null, .null, .int (iI (0)), .int (iI (0)), .int (iI (0)), .null, .null])) := eM1 ▸ zup_s
                    refine z_dup C 123 dX0_field_122 rfl rfl ?_
                    refine z_aload_n C 124 0 dX0_field_123 rfl rfl ?_
                    refine z_getf C hκ (v := .int (iI (w 11 0))) 127 3 zk_X0 hX14.o (by decide) q330 (Or.inl rfl) rfl dX0_field_124 rfl ?_
                    refine z_aload C 129 5 dX0_field_127 rfl rfl ?_
                    refine z_iload_n C 130 2 dX0_field_129 rfl rfl ?_
                    refine z_iload_n C 131 3 dX0_field_130 rfl rfl ?_
                    refine z_iconst C 132 dX0_field_131 rfl ?_
                    refine z_aload_n C 133 0 dX0_field_132 rfl rfl ?_
                    refine z_getf C hκ (v := .ref (σ 1 (0))) 136 0 zk_X0 hX14.o (by decide) q325 (Or.inl rfl) rfl dX0_field_133 rfl ?_
                    refine z_iload C 138 4 dX0_field_136 rfl rfl ?_
                    refine x_aT C hκ 139 hX14 hs (by omega) (by omega) dX0_field_138 rfl ?_
                    obtain ⟨f17a, f17b, f17c, f17d, f17e, f17f, f17g, f17h⟩ := hS.T (show 0 ≤ y by omega) (by omega)
                    obtain ⟨f17i, f17j, f17k, f17l⟩ := hs.ty (show 0 ≤ y by omega) (by omega)
                    refine z_callI (As := [.int (iI (w 11 0)), .ref (σ 10 (t)), .int (iI (n)), .int (iI (k)), .int (iI (1)), .ref (σ 10 (y))]) (rest := [.ref (a11)]) C hκ hκl 142 (k9_init_9 hT (a11) (w 11 0) (σ 10 (t)) (n) (k) (true) (some (σ 10 (y))) ⟨by omega, by omega⟩ r_n r_k o16) dX0_field_139 q648 q649 q103 q650 znX9_init rfl (Nat.le_of_ble_eq_true rfl) (Nat.le_of_ble_eq_true rfl) (Nat.le_of_ble_eq_true rfl) (Nat.le_of_ble_eq_true rfl) rfl (Nat.le_of_ble_eq_true rfl) rfl (fun v9 Q9 h9 => ?_)
                    obtain ⟨rfl, Mr18, par18, rfl, fxr18, oar18, hpar18, gpar18, ipar18⟩ := h9
                    have ne19 : a11 ≠ par18 := fun z9 => by have z8 := o16; rw [z9, gpar18] at z8; cases z8
                    have fr20 : xFr σ w (xL w) par18 := hX14.fr gpar18
                    have fr21 : M par18 = none := ge15.no gpar18
                    have hX22 : xM θ σ w (xL w) Mr18 := hX14.fx fxr18 fr12
                    have ge23 : zGe M Mr18 := ge15.fx fxr18 fr13
                    refine z_as (Pic' := zP θ Mr18 N) (st' := [.ref (a11)]) rfl rfl rfl ?_
                    refine z_widen (n' := 2) (k' := 15) (Nat.le_refl _) (Nat.le_refl _) ?_
                    refine z_astore (lv' := [(0, .ref (σ 0 (0))), (1, .int (iI (t))), (2, .int (iI (n))), (3, .int (iI (k))), (4, .int (iI (y))), (5, .ref (σ 10 (t))), (6, .ref (a11))]) C 144 [1, 2, 3, 4, 5, 6, 0] dX0_field_142 (by decide) rfl rfl ?_
                    refine z_aload C 146 6 dX0_field_144 rfl rfl ?_
                    refine z_aload C 148 6 dX0_field_146 rfl rfl ?_
                    refine z_iconst C 149 dX0_field_148 rfl ?_
                    refine z_callV (As := [.int (iI (4))]) (rest := [.ref (a11)]) C hκ hκl 152 (k9_has_r hT (a11) (4) (k) _ _ _ _ _ _ _ _ _ _ _ ⟨by decide, by decide⟩ oar18) dX0_field_149 q711 q712 q713 q103 q714 znX9_has (Nat.le_of_ble_eq_true rfl) (Nat.le_of_ble_eq_true rfl) (Nat.le_of_ble_eq_true rfl) (Nat.le_of_ble_eq_true rfl) (zrec_P oar18) rfl rfl (Nat.le_of_ble_eq_true rfl) rfl (fun v9 Q9 h9 => ?_)
                    obtain ⟨rfl, rfl⟩ := h9
                    refine z_as (st' := [.int (iI (bI (decide (zand (k) (4) ≠ 0)))), .ref (a11)]) rfl rfl rfl ?_
                    refine z_ifB_eq C 167 155 dX0_field_152 (by decide) rfl (fun c24 => ?_) (fun c24 => ?_)
                    · skip
                      have c24b : ¬ ((zand (k) (4) ≠ 0)) := of_decide_eq_false c24
                      refine z_null C 168 dX0_field_167 rfl ?_
                      refine z_putf (fs' := [.int (iI ((w 11 0))), .ref ((σ 10 (t))), .int (iI (n)), .int (iI (k)), .int (iI (bI (true))), .ref (σ 10 (y)), .ref (par18), .int (iI (0)), .int (iI (0)), .int (iI (0)), .null, .null]) C hκ 171 11 zk_X9 oar18 (by decide) q685 (Or.inl rfl) rfl rfl rfl (Nat.le_of_ble_eq_true rfl) rfl dX0_field_168 rfl ?_
                      obtain ⟨M2, eM2⟩ : ∃ z9 : zMap, zup Mr18 a11 (.inr (9, [.int (iI ((w 11 0))), .ref ((σ 10 (t))), .int (iI (n)), .int (iI (k)), .int (iI (bI (true))), .ref (σ 10 (y)), .ref (par18), .int (iI (0)), .int (iI (0)), .int (iI (0)), .null, .null]) : va_E) = z9 := ⟨_, rfl⟩
                      rw [eM2]
                      have o25 : M2 par18 = some (.inl (θ.2.1 8, 3, xQ (fun _ => none))) := eM2 ▸ (zup_n ipar18).trans hpar18
                      have hX26 : xM θ σ w (xL w) M2 := eM2 ▸ hX22.up fr12
                      have ge27 : zGe M M2 := eM2 ▸ ge23.up fr13
                      have o28 : M2 a11 = some (.inr (9, [.int (iI ((w 11 0))), .ref ((σ 10 (t))), .int (iI (n)), .int (iI (k)), .int (iI (bI (true))), .ref (σ 10 (y)), .ref (par18), .int (iI (0)), .int (iI (0)), .int (iI (0)), .null, .null])) := eM2 ▸ zup_s
                      refine z_aload_n C 172 0 dX0_field_171 rfl rfl ?_
                      refine z_getf C hκ (v := .ref (σ 2 (0))) 175 2 zk_X0 hX26.o (by decide) q329 (Or.inl rfl) rfl dX0_field_172 rfl ?_
                      refine z_aload_n C 176 0 dX0_field_175 rfl rfl ?_
                      refine z_getf C hκ (v := .int (iI (w 11 0))) 179 3 zk_X0 hX26.o (by decide) q330 (Or.inl rfl) rfl dX0_field_176 rfl ?_
                      refine z_aload C 181 6 dX0_field_179 rfl rfl ?_
                      obtain ⟨⟨e11, ag, e12⟩, ⟨e13, e14, e15, e16, e17⟩, e18, e20, e21, e22, e26⟩ := fiD (w := w) (t := t) (n := n) (k := k) (y := y) (f := true) (v := w 12 0 + 1)
                      have hcl9 : (dW (mset w 12 0 (w 12 0 + 1)) t n k y true) 16 (w 11 0) = 1 → hasB (dW (mset w 12 0 (w 12 0 + 1)) t n k y true) (w 11 0) 4 = false → ∀ x : Int, 0 ≤ x → x < w 27 0 → w 29 x = -1 → (dW (mset w 12 0 (w 12 0 + 1)) t n k y true) 13 (w 11 0) ∉ xL w (w 28 x) := (fun _ h9 => by rw [e13]; unfold hasB at h9; rw [e15] at h9; exact cc_no hs ⟨by omega, by omega⟩ (by unfold fiN at hfN; simp_all))
                      have hrw : xHasRow (dW (mset w 12 0 (w 12 0 + 1)) t n k y true) (w 11 0) = false := (by unfold xHasRow hasB; rw [e15, e16]; simp_all [bI])
                      have hbw : xHasBody (dW (mset w 12 0 (w 12 0 + 1)) t n k y true) (w 11 0) = false := (by unfold xHasBody; rw [e16]; simp [bI])
                      have hma : M2 a11 = some (.inr (9, xMem (xS2 σ (w 11 0) a11 par18 0 0) (dW (mset w 12 0 (w 12 0 + 1)) t n k y true) (w 11 0))) := o28.trans (by rw [xMem_l e13 e14 e15 e16 e17 e18 e20 e21 (Or.inr rfl) (Or.inl rfl) (Or.inl rfl), hrw, hbw, xo_y (show 0 ≤ y by omega)]; rfl)
                      obtain ⟨f9, hf9, hX9⟩ := newM_put (w2 := dW (mset w 12 0 (w 12 0 + 1)) t n k y true) (n := w 11 0) (a := a11) (pa := par18) (b := 0) (r := 0) hs hbd hX26 rfl (by omega) e11 ag hma ⟨_, o25, fun j hj => by rw [e18] at hj; omega⟩ (fun h => absurd (h.symm.trans hbw) (by decide)) (fun _ => e22) (fun h => absurd (h.symm.trans hrw) (by decide)) fr12 fr20 (fun h => absurd (h.symm.trans hbw) (by decide)) (fun h => absurd (h.symm.trans hrw) (by decide)) hcl9
                      refine z_qast (X := w 11 0) C hκ 182 9 hf9 rfl o28 rfl (by omega) (by omega) (by decide) rfl dX0_field_181 rfl ?_
                      obtain ⟨M3, eM3⟩ : ∃ z9 : zMap, zup M2 (σ 2 (0)) (.inl (θ.2.1 9, 100, xQ (va_up f9 (w 11 0).toNat (some a11))) : va_E) = z9 := ⟨_, rfl⟩
                      rw [eM3]
                      have hM0 : M3 (σ 0 (0)) = _ := eM3 ▸ (zup_n (hX26.ne (Or.inl ⟨by decide, rfl⟩ : xLv w (xL w) 0 0) (Or.inl ⟨by decide, rfl⟩ : xLv w (xL w) 2 0) (by decide))).trans hX26.o
                      have hMa : M3 a11 = _ := eM3 ▸ (zup_n (fun z9 => fr12 _ _ (Or.inl ⟨by decide, rfl⟩ : xLv w (xL w) 2 0) z9.symm)).trans o28
                      refine z_aload_n C 183 0 dX0_field_182 rfl rfl ?_
                      refine z_dup C 184 dX0_field_183 rfl rfl ?_
                      refine z_getf C hκ (v := .int (iI (w 11 0))) 187 3 zk_X0 hM0 (by decide) q330 (Or.inl rfl) rfl dX0_field_184 rfl ?_
                      refine z_iconst C 188 dX0_field_187 rfl ?_
                      refine z_iadd C 189 dX0_field_188 rfl ?_
                      refine z_putf (fs' := [.ref (σ 1 (0)), .int (iI (w 0 0)), .ref (σ 2 (0)), .int (iI ((w 11 0) + (1))), .int (iI (w 12 0)), .ref (σ 3 (0)), .int (iI (w 27 0)), .ref (σ 4 (0)), .ref (σ 10 (w 34 0)), .ref (σ 5 (0)), .ref (σ 6 (0)), .int (iI (w 37 0)), .int (iI (w 38 0)), .int (iI (w 39 0))]) C hκ 192 3 zk_X0 hM0 (by decide) q330 (Or.inl rfl) rfl rfl rfl (Nat.le_of_ble_eq_true rfl) rfl dX0_field_189 rfl ?_
                      obtain ⟨M4, eM4⟩ : ∃ z9 : zMap, zup M3 (σ 0 (0)) (.inr (0, [.ref (σ 1 (0)), .int (iI (w 0 0)), .ref (σ 2 (0)), .int (iI ((w 11 0) + (1))), .int (iI (w 12 0)), .ref (σ 3 (0)), .int (iI (w 27 0)), .ref (σ 4 (0)), .ref (σ 10 (w 34 0)), .ref (σ 5 (0)), .ref (σ 6 (0)), .int (iI (w 37 0)), .int (iI (w 38 0)), .int (iI (w 39 0))]) : va_E) = z9 := ⟨_, rfl⟩
                      rw [eM4]
                      have o29 : M4 (σ 0 (0)) = some (.inr (0, [.ref (σ 1 (0)), .int (iI (w 0 0)), .ref (σ 2 (0)), .int (iI ((w 11 0) + (1))), .int (iI (w 12 0)), .ref (σ 3 (0)), .int (iI (w 27 0)), .ref (σ 4 (0)), .ref (σ 10 (w 34 0)), .ref (σ 5 (0)), .ref (σ 6 (0)), .int (iI (w 37 0)), .int (iI (w 38 0)), .int (iI (w 39 0))])) := eM4 ▸ zup_s
                      have o30 : M4 a11 = _ := eM4 ▸ (zup_n (fun z9 => fr12 _ _ (Or.inl ⟨by decide, rfl⟩ : xLv w (xL w) 0 0) z9.symm)).trans hMa
                      refine z_aload_n C 193 0 dX0_field_192 rfl rfl ?_
                      refine z_dup C 194 dX0_field_193 rfl rfl ?_
                      refine z_getf C hκ (v := .int (iI (w 12 0))) 197 4 zk_X0 o29 (by decide) q331 (Or.inl rfl) rfl dX0_field_194 rfl ?_
                      refine z_iconst C 198 dX0_field_197 rfl ?_
                      refine z_iadd C 199 dX0_field_198 rfl ?_
                      refine z_putf (fs' := [.ref (σ 1 (0)), .int (iI (w 0 0)), .ref (σ 2 (0)), .int (iI ((w 11 0) + (1))), .int (iI ((w 12 0) + (1))), .ref (σ 3 (0)), .int (iI (w 27 0)), .ref (σ 4 (0)), .ref (σ 10 (w 34 0)), .ref (σ 5 (0)), .ref (σ 6 (0)), .int (iI (w 37 0)), .int (iI (w 38 0)), .int (iI (w 39 0))]) C hκ 202 4 zk_X0 o29 (by decide) q331 (Or.inl rfl) rfl rfl rfl (Nat.le_of_ble_eq_true rfl) rfl dX0_field_199 rfl ?_
                      obtain ⟨M5, eM5⟩ : ∃ z9 : zMap, zup M4 (σ 0 (0)) (.inr (0, [.ref (σ 1 (0)), .int (iI (w 0 0)), .ref (σ 2 (0)), .int (iI ((w 11 0) + (1))), .int (iI ((w 12 0) + (1))), .ref (σ 3 (0)), .int (iI (w 27 0)), .ref (σ 4 (0)), .ref (σ 10 (w 34 0)), .ref (σ 5 (0)), .ref (σ 6 (0)), .int (iI (w 37 0)), .int (iI (w 38 0)), .int (iI (w 39 0))]) : va_E) = z9 := ⟨_, rfl⟩
                      rw [eM5]
                      have o31 : M5 (σ 0 (0)) = some (.inr (0, [.ref (σ 1 (0)), .int (iI (w 0 0)), .ref (σ 2 (0)), .int (iI ((w 11 0) + (1))), .int (iI ((w 12 0) + (1))), .ref (σ 3 (0)), .int (iI (w 27 0)), .ref (σ 4 (0)), .ref (σ 10 (w 34 0)), .ref (σ 5 (0)), .ref (σ 6 (0)), .int (iI (w 37 0)), .int (iI (w 38 0)), .int (iI (w 39 0))])) := eM5 ▸ zup_s
                      have o32 : M5 a11 = _ := eM5 ▸ (zup_n (fun z9 => fr12 _ _ (Or.inl ⟨by decide, rfl⟩ : xLv w (xL w) 0 0) z9.symm)).trans o30
                      refine z_aload C 204 6 dX0_field_202 rfl rfl ?_
                      refine z_callV (As := []) (rest := []) C hκ hκl 207 (k9_number_r hT (a11) ((w 11 0)) _ _ _ _ _ _ _ _ _ _ _ o32) dX0_field_204 q738 q500 q2572 q103 q502 znX9_number (Nat.le_of_ble_eq_true rfl) (Nat.le_of_ble_eq_true rfl) (Nat.le_of_ble_eq_true rfl) (Nat.le_of_ble_eq_true rfl) (zrec_P o32) rfl rfl (Nat.le_of_ble_eq_true rfl) rfl (fun v9 Q9 h9 => ?_)
                      obtain ⟨rfl, rfl⟩ := h9
                      refine z_as (st' := [.int (iI (((w 11 0))))]) rfl rfl rfl ?_
                      exact z_iret C dX0_field_207 rfl (Nat.le_of_ble_eq_true rfl) (Nat.le_of_ble_eq_true rfl) (by unfold fiI fiW fiO; rw [if_neg (by simp_all), if_neg (by simp_all), if_neg (by omega), if_pos (by simp_all)]; exact ⟨rfl, M5, (xS2 σ (w 11 0) a11 par18 0 0), rfl, xS2_o (by omega), (by rw [← eM5, ← eM4, ← eM3]; simp only [zup_up]; exact hX9)⟩)
                    · skip
                      have c24b : ((zand (k) (4) ≠ 0)) := of_decide_eq_true c24
                      refine z_aload C 157 6 dX0_field_155 rfl rfl ?_
                      refine z_getf C hκ (v := .ref (σ 10 (y))) 160 5 zk_X9 oar18 (by decide) q672 (Or.inl rfl) rfl dX0_field_157 rfl ?_
                      refine z_iconst C 161 dX0_field_160 rfl ?_
                      refine xv_row (rest := [.ref (a11)]) C hκ hκl hX22 hs hw hT (y) (1) ⟨by decide, by decide⟩ ⟨by omega, by omega⟩ ⟨by omega, by omega⟩ 164 dX0_field_161 q715 (Nat.le_of_ble_eq_true rfl) (Nat.le_of_ble_eq_true rfl) (Nat.le_of_ble_eq_true rfl) (Nat.le_of_ble_eq_true rfl) (Nat.le_of_ble_eq_true rfl) rfl (fun a33 a33e a33M a33R => ?_)
                      have ne34 : a11 ≠ a33 := fun z9 => by have z8 := oar18; rw [z9, a33M] at z8; cases z8
                      have ne35 : par18 ≠ a33 := fun z9 => by have z8 := hpar18; rw [z9, a33M] at z8; cases z8
                      have fr36 : xFr σ w (xL w) a33 := hX22.fr a33M
                      have fr37 : M a33 = none := ge23.no a33M
                      obtain ⟨M6, eM6⟩ : ∃ z9 : zMap, zup Mr18 a33 (a33e : va_E) = z9 := ⟨_, rfl⟩
                      rw [eM6]
                      have o38 : M6 a11 = some (.inr (9, [.int (iI ((w 11 0))), .ref ((σ 10 (t))), .int (iI (n)), .int (iI (k)), .int (iI (bI (true))), .ref (σ 10 (y)), .ref (par18), .int (iI (0)), .int (iI (0)), .int (iI (0)), .null, .null])) := eM6 ▸ (zup_n ne34).trans oar18
                      have o39 : M6 par18 = some (.inl (θ.2.1 8, 3, xQ (fun _ => none))) := eM6 ▸ (zup_n ne35).trans hpar18
                      have hX40 : xM θ σ w (xL w) M6 := eM6 ▸ hX22.up fr36
                      have ge41 : zGe M M6 := eM6 ▸ ge23.up fr37
                      have o42 : M6 a33 = some (a33e) := eM6 ▸ zup_s
                      refine z_goto C 168 dX0_field_164 (by decide) ?_
                      refine z_putf (fs' := [.int (iI ((w 11 0))), .ref ((σ 10 (t))), .int (iI (n)), .int (iI (k)), .int (iI (bI (true))), .ref (σ 10 (y)), .ref (par18), .int (iI (0)), .int (iI (0)), .int (iI (0)), .null, .ref (a33)]) C hκ 171 11 zk_X9 o38 (by decide) q685 (Or.inl rfl) rfl rfl rfl (Nat.le_of_ble_eq_true rfl) rfl dX0_field_168 rfl ?_
                      obtain ⟨M7, eM7⟩ : ∃ z9 : zMap, zup M6 a11 (.inr (9, [.int (iI ((w 11 0))), .ref ((σ 10 (t))), .int (iI (n)), .int (iI (k)), .int (iI (bI (true))), .ref (σ 10 (y)), .ref (par18), .int (iI (0)), .int (iI (0)), .int (iI (0)), .null, .ref (a33)]) : va_E) = z9 := ⟨_, rfl⟩
                      rw [eM7]
                      have o43 : M7 par18 = some (.inl (θ.2.1 8, 3, xQ (fun _ => none))) := eM7 ▸ (zup_n ipar18).trans o39
                      have o44 : M7 a33 = some (a33e) := eM7 ▸ (zup_n (fun z9 => ne34 z9.symm)).trans o42
                      have hX45 : xM θ σ w (xL w) M7 := eM7 ▸ hX40.up fr12
                      have ge46 : zGe M M7 := eM7 ▸ ge41.up fr13
                      have o47 : M7 a11 = some (.inr (9, [.int (iI ((w 11 0))), .ref ((σ 10 (t))), .int (iI (n)), .int (iI (k)), .int (iI (bI (true))), .ref (σ 10 (y)), .ref (par18), .int (iI (0)), .int (iI (0)), .int (iI (0)), .null, .ref (a33)])) := eM7 ▸ zup_s
                      refine z_aload_n C 172 0 dX0_field_171 rfl rfl ?_
                      refine z_getf C hκ (v := .ref (σ 2 (0))) 175 2 zk_X0 hX45.o (by decide) q329 (Or.inl rfl) rfl dX0_field_172 rfl ?_
                      refine z_aload_n C 176 0 dX0_field_175 rfl rfl ?_
                      refine z_getf C hκ (v := .int (iI (w 11 0))) 179 3 zk_X0 hX45.o (by decide) q330 (Or.inl rfl) rfl dX0_field_176 rfl ?_
                      refine z_aload C 181 6 dX0_field_179 rfl rfl ?_
                      obtain ⟨⟨e11, ag, e12⟩, ⟨e13, e14, e15, e16, e17⟩, e18, e20, e21, e22, e26⟩ := fiD (w := w) (t := t) (n := n) (k := k) (y := y) (f := true) (v := w 12 0 + 1)
                      have hcl9 : (dW (mset w 12 0 (w 12 0 + 1)) t n k y true) 16 (w 11 0) = 1 → hasB (dW (mset w 12 0 (w 12 0 + 1)) t n k y true) (w 11 0) 4 = false → ∀ x : Int, 0 ≤ x → x < w 27 0 → w 29 x = -1 → (dW (mset w 12 0 (w 12 0 + 1)) t n k y true) 13 (w 11 0) ∉ xL w (w 28 x) := (fun _ h9 => by rw [e13]; unfold hasB at h9; rw [e15] at h9; exact cc_no hs ⟨by omega, by omega⟩ (by unfold fiN at hfN; simp_all))
                      have hrw : xHasRow (dW (mset w 12 0 (w 12 0 + 1)) t n k y true) (w 11 0) = true := (by unfold xHasRow hasB; rw [e15, e16]; simp_all [bI])
                      have hbw : xHasBody (dW (mset w 12 0 (w 12 0 + 1)) t n k y true) (w 11 0) = false := (by unfold xHasBody; rw [e16]; simp [bI])
                      have hma : M7 a11 = some (.inr (9, xMem (xS2 σ (w 11 0) a11 par18 0 a33) (dW (mset w 12 0 (w 12 0 + 1)) t n k y true) (w 11 0))) := o47.trans (by rw [xMem_l e13 e14 e15 e16 e17 e18 e20 e21 (Or.inr rfl) (Or.inl rfl) (Or.inl rfl), hrw, hbw, xo_y (show 0 ≤ y by omega)]; rfl)
                      obtain ⟨f9, hf9, hX9⟩ := newM_put (w2 := dW (mset w 12 0 (w 12 0 + 1)) t n k y true) (n := w 11 0) (a := a11) (pa := par18) (b := 0) (r := a33) hs hbd hX45 rfl (by omega) e11 ag hma ⟨_, o43, fun j hj => by rw [e18] at hj; omega⟩ (fun h => absurd (h.symm.trans hbw) (by decide)) (fun _ => e22) (fun _ => ⟨_, o44, (by rw [e17, e26]; exact a33R)⟩) fr12 fr20 (fun h => absurd (h.symm.trans hbw) (by decide)) (fun _ => fr36) hcl9
                      refine z_qast (X := w 11 0) C hκ 182 9 hf9 rfl o47 rfl (by omega) (by omega) (by decide) rfl dX0_field_181 rfl ?_
                      obtain ⟨M8, eM8⟩ : ∃ z9 : zMap, zup M7 (σ 2 (0)) (.inl (θ.2.1 9, 100, xQ (va_up f9 (w 11 0).toNat (some a11))) : va_E) = z9 := ⟨_, rfl⟩
                      rw [eM8]
                      have hM0 : M8 (σ 0 (0)) = _ := eM8 ▸ (zup_n (hX45.ne (Or.inl ⟨by decide, rfl⟩ : xLv w (xL w) 0 0) (Or.inl ⟨by decide, rfl⟩ : xLv w (xL w) 2 0) (by decide))).trans hX45.o
                      have hMa : M8 a11 = _ := eM8 ▸ (zup_n (fun z9 => fr12 _ _ (Or.inl ⟨by decide, rfl⟩ : xLv w (xL w) 2 0) z9.symm)).trans o47
                      refine z_aload_n C 183 0 dX0_field_182 rfl rfl ?_
                      refine z_dup C 184 dX0_field_183 rfl rfl ?_
                      refine z_getf C hκ (v := .int (iI (w 11 0))) 187 3 zk_X0 hM0 (by decide) q330 (Or.inl rfl) rfl dX0_field_184 rfl ?_
                      refine z_iconst C 188 dX0_field_187 rfl ?_
                      refine z_iadd C 189 dX0_field_188 rfl ?_
                      refine z_putf (fs' := [.ref (σ 1 (0)), .int (iI (w 0 0)), .ref (σ 2 (0)), .int (iI ((w 11 0) + (1))), .int (iI (w 12 0)), .ref (σ 3 (0)), .int (iI (w 27 0)), .ref (σ 4 (0)), .ref (σ 10 (w 34 0)), .ref (σ 5 (0)), .ref (σ 6 (0)), .int (iI (w 37 0)), .int (iI (w 38 0)), .int (iI (w 39 0))]) C hκ 192 3 zk_X0 hM0 (by decide) q330 (Or.inl rfl) rfl rfl rfl (Nat.le_of_ble_eq_true rfl) rfl dX0_field_189 rfl ?_
                      obtain ⟨M9, eM9⟩ : ∃ z9 : zMap, zup M8 (σ 0 (0)) (.inr (0, [.ref (σ 1 (0)), .int (iI (w 0 0)), .ref (σ 2 (0)), .int (iI ((w 11 0) + (1))), .int (iI (w 12 0)), .ref (σ 3 (0)), .int (iI (w 27 0)), .ref (σ 4 (0)), .ref (σ 10 (w 34 0)), .ref (σ 5 (0)), .ref (σ 6 (0)), .int (iI (w 37 0)), .int (iI (w 38 0)), .int (iI (w 39 0))]) : va_E) = z9 := ⟨_, rfl⟩
                      rw [eM9]
                      have o48 : M9 (σ 0 (0)) = some (.inr (0, [.ref (σ 1 (0)), .int (iI (w 0 0)), .ref (σ 2 (0)), .int (iI ((w 11 0) + (1))), .int (iI (w 12 0)), .ref (σ 3 (0)), .int (iI (w 27 0)), .ref (σ 4 (0)), .ref (σ 10 (w 34 0)), .ref (σ 5 (0)), .ref (σ 6 (0)), .int (iI (w 37 0)), .int (iI (w 38 0)), .int (iI (w 39 0))])) := eM9 ▸ zup_s
                      have o49 : M9 a11 = _ := eM9 ▸ (zup_n (fun z9 => fr12 _ _ (Or.inl ⟨by decide, rfl⟩ : xLv w (xL w) 0 0) z9.symm)).trans hMa
                      refine z_aload_n C 193 0 dX0_field_192 rfl rfl ?_
                      refine z_dup C 194 dX0_field_193 rfl rfl ?_
                      refine z_getf C hκ (v := .int (iI (w 12 0))) 197 4 zk_X0 o48 (by decide) q331 (Or.inl rfl) rfl dX0_field_194 rfl ?_
                      refine z_iconst C 198 dX0_field_197 rfl ?_
                      refine z_iadd C 199 dX0_field_198 rfl ?_
                      refine z_putf (fs' := [.ref (σ 1 (0)), .int (iI (w 0 0)), .ref (σ 2 (0)), .int (iI ((w 11 0) + (1))), .int (iI ((w 12 0) + (1))), .ref (σ 3 (0)), .int (iI (w 27 0)), .ref (σ 4 (0)), .ref (σ 10 (w 34 0)), .ref (σ 5 (0)), .ref (σ 6 (0)), .int (iI (w 37 0)), .int (iI (w 38 0)), .int (iI (w 39 0))]) C hκ 202 4 zk_X0 o48 (by decide) q331 (Or.inl rfl) rfl rfl rfl (Nat.le_of_ble_eq_true rfl) rfl dX0_field_199 rfl ?_
                      obtain ⟨M10, eM10⟩ : ∃ z9 : zMap, zup M9 (σ 0 (0)) (.inr (0, [.ref (σ 1 (0)), .int (iI (w 0 0)), .ref (σ 2 (0)), .int (iI ((w 11 0) + (1))), .int (iI ((w 12 0) + (1))), .ref (σ 3 (0)), .int (iI (w 27 0)), .ref (σ 4 (0)), .ref (σ 10 (w 34 0)), .ref (σ 5 (0)), .ref (σ 6 (0)), .int (iI (w 37 0)), .int (iI (w 38 0)), .int (iI (w 39 0))]) : va_E) = z9 := ⟨_, rfl⟩
                      rw [eM10]
                      have o50 : M10 (σ 0 (0)) = some (.inr (0, [.ref (σ 1 (0)), .int (iI (w 0 0)), .ref (σ 2 (0)), .int (iI ((w 11 0) + (1))), .int (iI ((w 12 0) + (1))), .ref (σ 3 (0)), .int (iI (w 27 0)), .ref (σ 4 (0)), .ref (σ 10 (w 34 0)), .ref (σ 5 (0)), .ref (σ 6 (0)), .int (iI (w 37 0)), .int (iI (w 38 0)), .int (iI (w 39 0))])) := eM10 ▸ zup_s
                      have o51 : M10 a11 = _ := eM10 ▸ (zup_n (fun z9 => fr12 _ _ (Or.inl ⟨by decide, rfl⟩ : xLv w (xL w) 0 0) z9.symm)).trans o49
                      refine z_aload C 204 6 dX0_field_202 rfl rfl ?_
                      refine z_callV (As := []) (rest := []) C hκ hκl 207 (k9_number_r hT (a11) ((w 11 0)) _ _ _ _ _ _ _ _ _ _ _ o51) dX0_field_204 q738 q500 q2572 q103 q502 znX9_number (Nat.le_of_ble_eq_true rfl) (Nat.le_of_ble_eq_true rfl) (Nat.le_of_ble_eq_true rfl) (Nat.le_of_ble_eq_true rfl) (zrec_P o51) rfl rfl (Nat.le_of_ble_eq_true rfl) rfl (fun v9 Q9 h9 => ?_)
                      obtain ⟨rfl, rfl⟩ := h9
                      refine z_as (st' := [.int (iI (((w 11 0))))]) rfl rfl rfl ?_
                      exact z_iret C dX0_field_207 rfl (Nat.le_of_ble_eq_true rfl) (Nat.le_of_ble_eq_true rfl) (by unfold fiI fiW fiO; rw [if_neg (by simp_all), if_neg (by simp_all), if_neg (by omega), if_pos (by simp_all)]; exact ⟨rfl, M10, (xS2 σ (w 11 0) a11 par18 0 a33), rfl, xS2_o (by omega), (by rw [← eM10, ← eM9, ← eM8]; simp only [zup_up]; exact hX9)⟩)
                  · skip
                    refine z_bipush C 118 dX0_field_116 (by decide) rfl ?_
                    exact z_iret C dX0_field_118 rfl (Nat.le_of_ble_eq_true rfl) (Nat.le_of_ble_eq_true rfl) (by unfold fiI fiW fiO; rw [if_neg (by simp_all), if_neg (by simp_all), if_pos (by omega), if_neg (by simp; omega)]; exact xOp_same hX)
                · skip
                  refine z_aload_n C 96 0 dX0_field_95 rfl rfl ?_
                  refine z_aload C 98 5 dX0_field_96 rfl rfl ?_
                  refine z_callV (As := [.ref (σ 10 (t))]) (rest := []) C hκ hκl 101 (k0_isClosed hX hs hw hT (t) ⟨by omega, by omega⟩) dX0_field_98 q552 q554 qs3 q90 q555 znX0_isClosed (Nat.le_of_ble_eq_true rfl) (Nat.le_of_ble_eq_true rfl) (Nat.le_of_ble_eq_true rfl) (Nat.le_of_ble_eq_true rfl) (zrec_P hX.o) rfl rfl (Nat.le_of_ble_eq_true rfl) rfl (fun v9 Q9 h9 => ?_)
                  obtain ⟨rfl, rfl⟩ := h9
                  refine z_as (st' := [.int (iI (bI (ccB w (t))))]) rfl rfl rfl ?_
                  refine z_ifB_eq C 107 104 dX0_field_101 (by decide) rfl (fun c52 => ?_) (fun c52 => ?_)
                  · skip
                    have hfr9 := ofI_r (w := w) (t := t) (n := n) (by omega)
                    have hfN : fiN w t n k = false := by unfold fiN; first | (simp_all; done) | (simp_all <;> omega)
                    refine z_aload_n C 108 0 dX0_field_107 rfl rfl ?_
                    refine z_getf C hκ (v := .int (iI (w 11 0))) 111 3 zk_X0 hX.o (by decide) q330 (Or.inl rfl) rfl dX0_field_108 rfl ?_
                    refine z_bipush C 113 dX0_field_111 (by decide) rfl ?_
                    refine z_icmp_ne C 119 116 dX0_field_113 (by decide) ⟨by omega, by omega⟩ ⟨by decide, by decide⟩ rfl (fun c53 => ?_) (fun c53 => ?_)
                    · skip
                      refine z_new (fs := [.int (iI (0)), .null, .int (iI (0)), .int (iI (0)), .int (iI (0)), .null, .null, .int (iI (0)), .int (iI (0)), .int (iI (0)), .null, .null]) C hκ 122 zk_X9 q149 q647 q103 (fun j9 h9 => match j9, h9 with | 0, _ => rfl | 1, _ => rfl | 2, _ => rfl | 3, _ => rfl | 4, _ => rfl | 5, _ => rfl | 6, _ => rfl | 7, _ => rfl | 8, _ => rfl | 9, _ => rfl | 10, _ => rfl | 11, _ => rfl | (j9 + 12), h9 => absurd h9 (by omega)) (Nat.le_of_ble_eq_true rfl) (Nat.le_of_ble_eq_true rfl) dX0_field_119 rfl (fun a54 a54M a54N => ?_)
                      refine z_widen (n' := 1) (k' := 12) (Nat.le_refl _) (Nat.le_refl _) ?_
                      have fr55 : xFr σ w (xL w) a54 := hX.fr a54M
                      have fr56 : M a54 = none := ge0.no a54M
                      obtain ⟨M11, eM11⟩ : ∃ z9 : zMap, zup M a54 (.inr (9, [.int (iI (0)), .null, .int (iI (0)), .int (iI (0)), .int (iI (0)), .null, .null, .int (iI (0)), .int (iI (0)), .int (iI (0)), .null, .null]) : va_E) = z9 := ⟨_, rfl⟩
                      rw [eM11]
                      have hX57 : xM θ σ w (xL w) M11 := eM11 ▸ hX.up fr55
                      have ge58 : zGe M M11 := eM11 ▸ ge0.up fr56
                      have o59 : M11 a54 = some (.inr (9, [.int (iI (0)), .null, .int (iI (0)), .int (iI (0)), .int (iI (0)), .null, .null, .int (iI (0)), .int (iI (0)), .int (iI (0)), .null, .null])) := eM11 ▸ zup_s
                      refine z_dup C 123 dX0_field_122 rfl rfl ?_
                      refine z_aload_n C 124 0 dX0_field_123 rfl rfl ?_
                      refine z_getf C hκ (v := .int (iI (w 11 0))) 127 3 zk_X0 hX57.o (by decide) q330 (Or.inl rfl) rfl dX0_field_124 rfl ?_
                      refine z_aload C 129 5 dX0_field_127 rfl rfl ?_
                      refine z_iload_n C 130 2 dX0_field_129 rfl rfl ?_
                      refine z_iload_n C 131 3 dX0_field_130 rfl rfl ?_
                      refine z_iconst C 132 dX0_field_131 rfl ?_
                      refine z_aload_n C 133 0 dX0_field_132 rfl rfl ?_
                      refine z_getf C hκ (v := .ref (σ 1 (0))) 136 0 zk_X0 hX57.o (by decide) q325 (Or.inl rfl) rfl dX0_field_133 rfl ?_
                      refine z_iload C 138 4 dX0_field_136 rfl rfl ?_
                      refine x_aT C hκ 139 hX57 hs (by omega) (by omega) dX0_field_138 rfl ?_
                      obtain ⟨f60a, f60b, f60c, f60d, f60e, f60f, f60g, f60h⟩ := hS.T (show 0 ≤ y by omega) (by omega)
                      obtain ⟨f60i, f60j, f60k, f60l⟩ := hs.ty (show 0 ≤ y by omega) (by omega)
                      refine z_callI (As := [.int (iI (w 11 0)), .ref (σ 10 (t)), .int (iI (n)), .int (iI (k)), .int (iI (1)), .ref (σ 10 (y))]) (rest := [.ref (a54)]) C hκ hκl 142 (k9_init_9 hT (a54) (w 11 0) (σ 10 (t)) (n) (k) (true) (some (σ 10 (y))) ⟨by omega, by omega⟩ r_n r_k o59) dX0_field_139 q648 q649 q103 q650 znX9_init rfl (Nat.le_of_ble_eq_true rfl) (Nat.le_of_ble_eq_true rfl) (Nat.le_of_ble_eq_true rfl) (Nat.le_of_ble_eq_true rfl) rfl (Nat.le_of_ble_eq_true rfl) rfl (fun v9 Q9 h9 => ?_)
                      obtain ⟨rfl, Mr61, par61, rfl, fxr61, oar61, hpar61, gpar61, ipar61⟩ := h9
                      have ne62 : a54 ≠ par61 := fun z9 => by have z8 := o59; rw [z9, gpar61] at z8; cases z8
                      have fr63 : xFr σ w (xL w) par61 := hX57.fr gpar61
                      have fr64 : M par61 = none := ge58.no gpar61
                      have hX65 : xM θ σ w (xL w) Mr61 := hX57.fx fxr61 fr55
                      have ge66 : zGe M Mr61 := ge58.fx fxr61 fr56
                      refine z_as (Pic' := zP θ Mr61 N) (st' := [.ref (a54)]) rfl rfl rfl ?_
                      refine z_widen (n' := 2) (k' := 15) (Nat.le_refl _) (Nat.le_refl _) ?_
                      refine z_astore (lv' := [(0, .ref (σ 0 (0))), (1, .int (iI (t))), (2, .int (iI (n))), (3, .int (iI (k))), (4, .int (iI (y))), (5, .ref (σ 10 (t))), (6, .ref (a54))]) C 144 [1, 2, 3, 4, 5, 6, 0] dX0_field_142 (by decide) rfl rfl ?_
                      refine z_aload C 146 6 dX0_field_144 rfl rfl ?_
                      refine z_aload C 148 6 dX0_field_146 rfl rfl ?_
                      refine z_iconst C 149 dX0_field_148 rfl ?_
                      refine z_callV (As := [.int (iI (4))]) (rest := [.ref (a54)]) C hκ hκl 152 (k9_has_r hT (a54) (4) (k) _ _ _ _ _ _ _ _ _ _ _ ⟨by decide, by decide⟩ oar61) dX0_field_149 q711 q712 q713 q103 q714 znX9_has (Nat.le_of_ble_eq_true rfl) (Nat.le_of_ble_eq_true rfl) (Nat.le_of_ble_eq_true rfl) (Nat.le_of_ble_eq_true rfl) (zrec_P oar61) rfl rfl (Nat.le_of_ble_eq_true rfl) rfl (fun v9 Q9 h9 => ?_)
                      obtain ⟨rfl, rfl⟩ := h9
                      refine z_as (st' := [.int (iI (bI (decide (zand (k) (4) ≠ 0)))), .ref (a54)]) rfl rfl rfl ?_
                      refine z_ifB_eq C 167 155 dX0_field_152 (by decide) rfl (fun c67 => ?_) (fun c67 => ?_)
                      · skip
                        have c67b : ¬ ((zand (k) (4) ≠ 0)) := of_decide_eq_false c67
                        refine z_null C 168 dX0_field_167 rfl ?_
                        refine z_putf (fs' := [.int (iI ((w 11 0))), .ref ((σ 10 (t))), .int (iI (n)), .int (iI (k)), .int (iI (bI (true))), .ref (σ 10 (y)), .ref (par61), .int (iI (0)), .int (iI (0)), .int (iI (0)), .null, .null]) C hκ 171 11 zk_X9 oar61 (by decide) q685 (Or.inl rfl) rfl rfl rfl (Nat.le_of_ble_eq_true rfl) rfl dX0_field_168 rfl ?_
                        obtain ⟨M12, eM12⟩ : ∃ z9 : zMap, zup Mr61 a54 (.inr (9, [.int (iI ((w 11 0))), .ref ((σ 10 (t))), .int (iI (n)), .int (iI (k)), .int (iI (bI (true))), .ref (σ 10 (y)), .ref (par61), .int (iI (0)), .int (iI (0)), .int (iI (0)), .null, .null]) : va_E) = z9 := ⟨_, rfl⟩
                        rw [eM12]
                        have o68 : M12 par61 = some (.inl (θ.2.1 8, 3, xQ (fun _ => none))) := eM12 ▸ (zup_n ipar61).trans hpar61
                        have hX69 : xM θ σ w (xL w) M12 := eM12 ▸ hX65.up fr55
                        have ge70 : zGe M M12 := eM12 ▸ ge66.up fr56
                        have o71 : M12 a54 = some (.inr (9, [.int (iI ((w 11 0))), .ref ((σ 10 (t))), .int (iI (n)), .int (iI (k)), .int (iI (bI (true))), .ref (σ 10 (y)), .ref (par61), .int (iI (0)), .int (iI (0)), .int (iI (0)), .null, .null])) := eM12 ▸ zup_s
                        refine z_aload_n C 172 0 dX0_field_171 rfl rfl ?_
                        refine z_getf C hκ (v := .ref (σ 2 (0))) 175 2 zk_X0 hX69.o (by decide) q329 (Or.inl rfl) rfl dX0_field_172 rfl ?_
                        refine z_aload_n C 176 0 dX0_field_175 rfl rfl ?_
                        refine z_getf C hκ (v := .int (iI (w 11 0))) 179 3 zk_X0 hX69.o (by decide) q330 (Or.inl rfl) rfl dX0_field_176 rfl ?_
                        refine z_aload C 181 6 dX0_field_179 rfl rfl ?_
                        obtain ⟨⟨e11, ag, e12⟩, ⟨e13, e14, e15, e16, e17⟩, e18, e20, e21, e22, e26⟩ := fiD (w := w) (t := t) (n := n) (k := k) (y := y) (f := true) (v := w 12 0 + 1)
                        have hcl9 : (dW (mset w 12 0 (w 12 0 + 1)) t n k y true) 16 (w 11 0) = 1 → hasB (dW (mset w 12 0 (w 12 0 + 1)) t n k y true) (w 11 0) 4 = false → ∀ x : Int, 0 ≤ x → x < w 27 0 → w 29 x = -1 → (dW (mset w 12 0 (w 12 0 + 1)) t n k y true) 13 (w 11 0) ∉ xL w (w 28 x) := (fun _ h9 => by rw [e13]; unfold hasB at h9; rw [e15] at h9; exact cc_no hs ⟨by omega, by omega⟩ (by unfold fiN at hfN; simp_all))
                        have hrw : xHasRow (dW (mset w 12 0 (w 12 0 + 1)) t n k y true) (w 11 0) = false := (by unfold xHasRow hasB; rw [e15, e16]; simp_all [bI])
                        have hbw : xHasBody (dW (mset w 12 0 (w 12 0 + 1)) t n k y true) (w 11 0) = false := (by unfold xHasBody; rw [e16]; simp [bI])
                        have hma : M12 a54 = some (.inr (9, xMem (xS2 σ (w 11 0) a54 par61 0 0) (dW (mset w 12 0 (w 12 0 + 1)) t n k y true) (w 11 0))) := o71.trans (by rw [xMem_l e13 e14 e15 e16 e17 e18 e20 e21 (Or.inr rfl) (Or.inl rfl) (Or.inl rfl), hrw, hbw, xo_y (show 0 ≤ y by omega)]; rfl)
                        obtain ⟨f9, hf9, hX9⟩ := newM_put (w2 := dW (mset w 12 0 (w 12 0 + 1)) t n k y true) (n := w 11 0) (a := a54) (pa := par61) (b := 0) (r := 0) hs hbd hX69 rfl (by omega) e11 ag hma ⟨_, o68, fun j hj => by rw [e18] at hj; omega⟩ (fun h => absurd (h.symm.trans hbw) (by decide)) (fun _ => e22) (fun h => absurd (h.symm.trans hrw) (by decide)) fr55 fr63 (fun h => absurd (h.symm.trans hbw) (by decide)) (fun h => absurd (h.symm.trans hrw) (by decide)) hcl9
                        refine z_qast (X := w 11 0) C hκ 182 9 hf9 rfl o71 rfl (by omega) (by omega) (by decide) rfl dX0_field_181 rfl ?_
                        obtain ⟨M13, eM13⟩ : ∃ z9 : zMap, zup M12 (σ 2 (0)) (.inl (θ.2.1 9, 100, xQ (va_up f9 (w 11 0).toNat (some a54))) : va_E) = z9 := ⟨_, rfl⟩
                        rw [eM13]
                        have hM0 : M13 (σ 0 (0)) = _ := eM13 ▸ (zup_n (hX69.ne (Or.inl ⟨by decide, rfl⟩ : xLv w (xL w) 0 0) (Or.inl ⟨by decide, rfl⟩ : xLv w (xL w) 2 0) (by decide))).trans hX69.o
                        have hMa : M13 a54 = _ := eM13 ▸ (zup_n (fun z9 => fr55 _ _ (Or.inl ⟨by decide, rfl⟩ : xLv w (xL w) 2 0) z9.symm)).trans o71
                        refine z_aload_n C 183 0 dX0_field_182 rfl rfl ?_
                        refine z_dup C 184 dX0_field_183 rfl rfl ?_
                        refine z_getf C hκ (v := .int (iI (w 11 0))) 187 3 zk_X0 hM0 (by decide) q330 (Or.inl rfl) rfl dX0_field_184 rfl ?_
                        refine z_iconst C 188 dX0_field_187 rfl ?_
                        refine z_iadd C 189 dX0_field_188 rfl ?_
                        refine z_putf (fs' := [.ref (σ 1 (0)), .int (iI (w 0 0)), .ref (σ 2 (0)), .int (iI ((w 11 0) + (1))), .int (iI (w 12 0)), .ref (σ 3 (0)), .int (iI (w 27 0)), .ref (σ 4 (0)), .ref (σ 10 (w 34 0)), .ref (σ 5 (0)), .ref (σ 6 (0)), .int (iI (w 37 0)), .int (iI (w 38 0)), .int (iI (w 39 0))]) C hκ 192 3 zk_X0 hM0 (by decide) q330 (Or.inl rfl) rfl rfl rfl (Nat.le_of_ble_eq_true rfl) rfl dX0_field_189 rfl ?_
                        obtain ⟨M14, eM14⟩ : ∃ z9 : zMap, zup M13 (σ 0 (0)) (.inr (0, [.ref (σ 1 (0)), .int (iI (w 0 0)), .ref (σ 2 (0)), .int (iI ((w 11 0) + (1))), .int (iI (w 12 0)), .ref (σ 3 (0)), .int (iI (w 27 0)), .ref (σ 4 (0)), .ref (σ 10 (w 34 0)), .ref (σ 5 (0)), .ref (σ 6 (0)), .int (iI (w 37 0)), .int (iI (w 38 0)), .int (iI (w 39 0))]) : va_E) = z9 := ⟨_, rfl⟩
                        rw [eM14]
                        have o72 : M14 (σ 0 (0)) = some (.inr (0, [.ref (σ 1 (0)), .int (iI (w 0 0)), .ref (σ 2 (0)), .int (iI ((w 11 0) + (1))), .int (iI (w 12 0)), .ref (σ 3 (0)), .int (iI (w 27 0)), .ref (σ 4 (0)), .ref (σ 10 (w 34 0)), .ref (σ 5 (0)), .ref (σ 6 (0)), .int (iI (w 37 0)), .int (iI (w 38 0)), .int (iI (w 39 0))])) := eM14 ▸ zup_s
                        have o73 : M14 a54 = _ := eM14 ▸ (zup_n (fun z9 => fr55 _ _ (Or.inl ⟨by decide, rfl⟩ : xLv w (xL w) 0 0) z9.symm)).trans hMa
                        refine z_aload_n C 193 0 dX0_field_192 rfl rfl ?_
                        refine z_dup C 194 dX0_field_193 rfl rfl ?_
                        refine z_getf C hκ (v := .int (iI (w 12 0))) 197 4 zk_X0 o72 (by decide) q331 (Or.inl rfl) rfl dX0_field_194 rfl ?_
                        refine z_iconst C 198 dX0_field_197 rfl ?_
                        refine z_iadd C 199 dX0_field_198 rfl ?_
                        refine z_putf (fs' := [.ref (σ 1 (0)), .int (iI (w 0 0)), .ref (σ 2 (0)), .int (iI ((w 11 0) + (1))), .int (iI ((w 12 0) + (1))), .ref (σ 3 (0)), .int (iI (w 27 0)), .ref (σ 4 (0)), .ref (σ 10 (w 34 0)), .ref (σ 5 (0)), .ref (σ 6 (0)), .int (iI (w 37 0)), .int (iI (w 38 0)), .int (iI (w 39 0))]) C hκ 202 4 zk_X0 o72 (by decide) q331 (Or.inl rfl) rfl rfl rfl (Nat.le_of_ble_eq_true rfl) rfl dX0_field_199 rfl ?_
                        obtain ⟨M15, eM15⟩ : ∃ z9 : zMap, zup M14 (σ 0 (0)) (.inr (0, [.ref (σ 1 (0)), .int (iI (w 0 0)), .ref (σ 2 (0)), .int (iI ((w 11 0) + (1))), .int (iI ((w 12 0) + (1))), .ref (σ 3 (0)), .int (iI (w 27 0)), .ref (σ 4 (0)), .ref (σ 10 (w 34 0)), .ref (σ 5 (0)), .ref (σ 6 (0)), .int (iI (w 37 0)), .int (iI (w 38 0)), .int (iI (w 39 0))]) : va_E) = z9 := ⟨_, rfl⟩
                        rw [eM15]
                        have o74 : M15 (σ 0 (0)) = some (.inr (0, [.ref (σ 1 (0)), .int (iI (w 0 0)), .ref (σ 2 (0)), .int (iI ((w 11 0) + (1))), .int (iI ((w 12 0) + (1))), .ref (σ 3 (0)), .int (iI (w 27 0)), .ref (σ 4 (0)), .ref (σ 10 (w 34 0)), .ref (σ 5 (0)), .ref (σ 6 (0)), .int (iI (w 37 0)), .int (iI (w 38 0)), .int (iI (w 39 0))])) := eM15 ▸ zup_s
                        have o75 : M15 a54 = _ := eM15 ▸ (zup_n (fun z9 => fr55 _ _ (Or.inl ⟨by decide, rfl⟩ : xLv w (xL w) 0 0) z9.symm)).trans o73
                        refine z_aload C 204 6 dX0_field_202 rfl rfl ?_
                        refine z_callV (As := []) (rest := []) C hκ hκl 207 (k9_number_r hT (a54) ((w 11 0)) _ _ _ _ _ _ _ _ _ _ _ o75) dX0_field_204 q738 q500 q2572 q103 q502 znX9_number (Nat.le_of_ble_eq_true rfl) (Nat.le_of_ble_eq_true rfl) (Nat.le_of_ble_eq_true rfl) (Nat.le_of_ble_eq_true rfl) (zrec_P o75) rfl rfl (Nat.le_of_ble_eq_true rfl) rfl (fun v9 Q9 h9 => ?_)
                        obtain ⟨rfl, rfl⟩ := h9
                        refine z_as (st' := [.int (iI (((w 11 0))))]) rfl rfl rfl ?_
                        exact z_iret C dX0_field_207 rfl (Nat.le_of_ble_eq_true rfl) (Nat.le_of_ble_eq_true rfl) (by unfold fiI fiW fiO; rw [if_neg (by simp_all), if_neg (by simp_all), if_neg (by omega), if_pos (by simp_all)]; exact ⟨rfl, M15, (xS2 σ (w 11 0) a54 par61 0 0), rfl, xS2_o (by omega), (by rw [← eM15, ← eM14, ← eM13]; simp only [zup_up]; exact hX9)⟩)
                      · skip
                        have c67b : ((zand (k) (4) ≠ 0)) := of_decide_eq_true c67
                        refine z_aload C 157 6 dX0_field_155 rfl rfl ?_
                        refine z_getf C hκ (v := .ref (σ 10 (y))) 160 5 zk_X9 oar61 (by decide) q672 (Or.inl rfl) rfl dX0_field_157 rfl ?_
                        refine z_iconst C 161 dX0_field_160 rfl ?_
                        refine xv_row (rest := [.ref (a54)]) C hκ hκl hX65 hs hw hT (y) (1) ⟨by decide, by decide⟩ ⟨by omega, by omega⟩ ⟨by omega, by omega⟩ 164 dX0_field_161 q715 (Nat.le_of_ble_eq_true rfl) (Nat.le_of_ble_eq_true rfl) (Nat.le_of_ble_eq_true rfl) (Nat.le_of_ble_eq_true rfl) (Nat.le_of_ble_eq_true rfl) rfl (fun a76 a76e a76M a76R => ?_)
                        have ne77 : a54 ≠ a76 := fun z9 => by have z8 := oar61; rw [z9, a76M] at z8; cases z8
                        have ne78 : par61 ≠ a76 := fun z9 => by have z8 := hpar61; rw [z9, a76M] at z8; cases z8
                        have fr79 : xFr σ w (xL w) a76 := hX65.fr a76M
                        have fr80 : M a76 = none := ge66.no a76M
                        obtain ⟨M16, eM16⟩ : ∃ z9 : zMap, zup Mr61 a76 (a76e : va_E) = z9 := ⟨_, rfl⟩
                        rw [eM16]
                        have o81 : M16 a54 = some (.inr (9, [.int (iI ((w 11 0))), .ref ((σ 10 (t))), .int (iI (n)), .int (iI (k)), .int (iI (bI (true))), .ref (σ 10 (y)), .ref (par61), .int (iI (0)), .int (iI (0)), .int (iI (0)), .null, .null])) := eM16 ▸ (zup_n ne77).trans oar61
                        have o82 : M16 par61 = some (.inl (θ.2.1 8, 3, xQ (fun _ => none))) := eM16 ▸ (zup_n ne78).trans hpar61
                        have hX83 : xM θ σ w (xL w) M16 := eM16 ▸ hX65.up fr79
                        have ge84 : zGe M M16 := eM16 ▸ ge66.up fr80
                        have o85 : M16 a76 = some (a76e) := eM16 ▸ zup_s
                        refine z_goto C 168 dX0_field_164 (by decide) ?_
                        refine z_putf (fs' := [.int (iI ((w 11 0))), .ref ((σ 10 (t))), .int (iI (n)), .int (iI (k)), .int (iI (bI (true))), .ref (σ 10 (y)), .ref (par61), .int (iI (0)), .int (iI (0)), .int (iI (0)), .null, .ref (a76)]) C hκ 171 11 zk_X9 o81 (by decide) q685 (Or.inl rfl) rfl rfl rfl (Nat.le_of_ble_eq_true rfl) rfl dX0_field_168 rfl ?_
                        obtain ⟨M17, eM17⟩ : ∃ z9 : zMap, zup M16 a54 (.inr (9, [.int (iI ((w 11 0))), .ref ((σ 10 (t))), .int (iI (n)), .int (iI (k)), .int (iI (bI (true))), .ref (σ 10 (y)), .ref (par61), .int (iI (0)), .int (iI (0)), .int (iI (0)), .null, .ref (a76)]) : va_E) = z9 := ⟨_, rfl⟩
                        rw [eM17]
                        have o86 : M17 par61 = some (.inl (θ.2.1 8, 3, xQ (fun _ => none))) := eM17 ▸ (zup_n ipar61).trans o82
                        have o87 : M17 a76 = some (a76e) := eM17 ▸ (zup_n (fun z9 => ne77 z9.symm)).trans o85
                        have hX88 : xM θ σ w (xL w) M17 := eM17 ▸ hX83.up fr55
                        have ge89 : zGe M M17 := eM17 ▸ ge84.up fr56
                        have o90 : M17 a54 = some (.inr (9, [.int (iI ((w 11 0))), .ref ((σ 10 (t))), .int (iI (n)), .int (iI (k)), .int (iI (bI (true))), .ref (σ 10 (y)), .ref (par61), .int (iI (0)), .int (iI (0)), .int (iI (0)), .null, .ref (a76)])) := eM17 ▸ zup_s
                        refine z_aload_n C 172 0 dX0_field_171 rfl rfl ?_
                        refine z_getf C hκ (v := .ref (σ 2 (0))) 175 2 zk_X0 hX88.o (by decide) q329 (Or.inl rfl) rfl dX0_field_172 rfl ?_
                        refine z_aload_n C 176 0 dX0_field_175 rfl rfl ?_
                        refine z_getf C hκ (v := .int (iI (w 11 0))) 179 3 zk_X0 hX88.o (by decide) q330 (Or.inl rfl) rfl dX0_field_176 rfl ?_
                        refine z_aload C 181 6 dX0_field_179 rfl rfl ?_
                        obtain ⟨⟨e11, ag, e12⟩, ⟨e13, e14, e15, e16, e17⟩, e18, e20, e21, e22, e26⟩ := fiD (w := w) (t := t) (n := n) (k := k) (y := y) (f := true) (v := w 12 0 + 1)
                        have hcl9 : (dW (mset w 12 0 (w 12 0 + 1)) t n k y true) 16 (w 11 0) = 1 → hasB (dW (mset w 12 0 (w 12 0 + 1)) t n k y true) (w 11 0) 4 = false → ∀ x : Int, 0 ≤ x → x < w 27 0 → w 29 x = -1 → (dW (mset w 12 0 (w 12 0 + 1)) t n k y true) 13 (w 11 0) ∉ xL w (w 28 x) := (fun _ h9 => by rw [e13]; unfold hasB at h9; rw [e15] at h9; exact cc_no hs ⟨by omega, by omega⟩ (by unfold fiN at hfN; simp_all))
                        have hrw : xHasRow (dW (mset w 12 0 (w 12 0 + 1)) t n k y true) (w 11 0) = true := (by unfold xHasRow hasB; rw [e15, e16]; simp_all [bI])
                        have hbw : xHasBody (dW (mset w 12 0 (w 12 0 + 1)) t n k y true) (w 11 0) = false := (by unfold xHasBody; rw [e16]; simp [bI])
                        have hma : M17 a54 = some (.inr (9, xMem (xS2 σ (w 11 0) a54 par61 0 a76) (dW (mset w 12 0 (w 12 0 + 1)) t n k y true) (w 11 0))) := o90.trans (by rw [xMem_l e13 e14 e15 e16 e17 e18 e20 e21 (Or.inr rfl) (Or.inl rfl) (Or.inl rfl), hrw, hbw, xo_y (show 0 ≤ y by omega)]; rfl)
                        obtain ⟨f9, hf9, hX9⟩ := newM_put (w2 := dW (mset w 12 0 (w 12 0 + 1)) t n k y true) (n := w 11 0) (a := a54) (pa := par61) (b := 0) (r := a76) hs hbd hX88 rfl (by omega) e11 ag hma ⟨_, o86, fun j hj => by rw [e18] at hj; omega⟩ (fun h => absurd (h.symm.trans hbw) (by decide)) (fun _ => e22) (fun _ => ⟨_, o87, (by rw [e17, e26]; exact a76R)⟩) fr55 fr63 (fun h => absurd (h.symm.trans hbw) (by decide)) (fun _ => fr79) hcl9
                        refine z_qast (X := w 11 0) C hκ 182 9 hf9 rfl o90 rfl (by omega) (by omega) (by decide) rfl dX0_field_181 rfl ?_
                        obtain ⟨M18, eM18⟩ : ∃ z9 : zMap, zup M17 (σ 2 (0)) (.inl (θ.2.1 9, 100, xQ (va_up f9 (w 11 0).toNat (some a54))) : va_E) = z9 := ⟨_, rfl⟩
                        rw [eM18]
                        have hM0 : M18 (σ 0 (0)) = _ := eM18 ▸ (zup_n (hX88.ne (Or.inl ⟨by decide, rfl⟩ : xLv w (xL w) 0 0) (Or.inl ⟨by decide, rfl⟩ : xLv w (xL w) 2 0) (by decide))).trans hX88.o
                        have hMa : M18 a54 = _ := eM18 ▸ (zup_n (fun z9 => fr55 _ _ (Or.inl ⟨by decide, rfl⟩ : xLv w (xL w) 2 0) z9.symm)).trans o90
                        refine z_aload_n C 183 0 dX0_field_182 rfl rfl ?_
                        refine z_dup C 184 dX0_field_183 rfl rfl ?_
                        refine z_getf C hκ (v := .int (iI (w 11 0))) 187 3 zk_X0 hM0 (by decide) q330 (Or.inl rfl) rfl dX0_field_184 rfl ?_
                        refine z_iconst C 188 dX0_field_187 rfl ?_
                        refine z_iadd C 189 dX0_field_188 rfl ?_
                        refine z_putf (fs' := [.ref (σ 1 (0)), .int (iI (w 0 0)), .ref (σ 2 (0)), .int (iI ((w 11 0) + (1))), .int (iI (w 12 0)), .ref (σ 3 (0)), .int (iI (w 27 0)), .ref (σ 4 (0)), .ref (σ 10 (w 34 0)), .ref (σ 5 (0)), .ref (σ 6 (0)), .int (iI (w 37 0)), .int (iI (w 38 0)), .int (iI (w 39 0))]) C hκ 192 3 zk_X0 hM0 (by decide) q330 (Or.inl rfl) rfl rfl rfl (Nat.le_of_ble_eq_true rfl) rfl dX0_field_189 rfl ?_
                        obtain ⟨M19, eM19⟩ : ∃ z9 : zMap, zup M18 (σ 0 (0)) (.inr (0, [.ref (σ 1 (0)), .int (iI (w 0 0)), .ref (σ 2 (0)), .int (iI ((w 11 0) + (1))), .int (iI (w 12 0)), .ref (σ 3 (0)), .int (iI (w 27 0)), .ref (σ 4 (0)), .ref (σ 10 (w 34 0)), .ref (σ 5 (0)), .ref (σ 6 (0)), .int (iI (w 37 0)), .int (iI (w 38 0)), .int (iI (w 39 0))]) : va_E) = z9 := ⟨_, rfl⟩
                        rw [eM19]
                        have o91 : M19 (σ 0 (0)) = some (.inr (0, [.ref (σ 1 (0)), .int (iI (w 0 0)), .ref (σ 2 (0)), .int (iI ((w 11 0) + (1))), .int (iI (w 12 0)), .ref (σ 3 (0)), .int (iI (w 27 0)), .ref (σ 4 (0)), .ref (σ 10 (w 34 0)), .ref (σ 5 (0)), .ref (σ 6 (0)), .int (iI (w 37 0)), .int (iI (w 38 0)), .int (iI (w 39 0))])) := eM19 ▸ zup_s
                        have o92 : M19 a54 = _ := eM19 ▸ (zup_n (fun z9 => fr55 _ _ (Or.inl ⟨by decide, rfl⟩ : xLv w (xL w) 0 0) z9.symm)).trans hMa
                        refine z_aload_n C 193 0 dX0_field_192 rfl rfl ?_
                        refine z_dup C 194 dX0_field_193 rfl rfl ?_
                        refine z_getf C hκ (v := .int (iI (w 12 0))) 197 4 zk_X0 o91 (by decide) q331 (Or.inl rfl) rfl dX0_field_194 rfl ?_
                        refine z_iconst C 198 dX0_field_197 rfl ?_
                        refine z_iadd C 199 dX0_field_198 rfl ?_
                        refine z_putf (fs' := [.ref (σ 1 (0)), .int (iI (w 0 0)), .ref (σ 2 (0)), .int (iI ((w 11 0) + (1))), .int (iI ((w 12 0) + (1))), .ref (σ 3 (0)), .int (iI (w 27 0)), .ref (σ 4 (0)), .ref (σ 10 (w 34 0)), .ref (σ 5 (0)), .ref (σ 6 (0)), .int (iI (w 37 0)), .int (iI (w 38 0)), .int (iI (w 39 0))]) C hκ 202 4 zk_X0 o91 (by decide) q331 (Or.inl rfl) rfl rfl rfl (Nat.le_of_ble_eq_true rfl) rfl dX0_field_199 rfl ?_
                        obtain ⟨M20, eM20⟩ : ∃ z9 : zMap, zup M19 (σ 0 (0)) (.inr (0, [.ref (σ 1 (0)), .int (iI (w 0 0)), .ref (σ 2 (0)), .int (iI ((w 11 0) + (1))), .int (iI ((w 12 0) + (1))), .ref (σ 3 (0)), .int (iI (w 27 0)), .ref (σ 4 (0)), .ref (σ 10 (w 34 0)), .ref (σ 5 (0)), .ref (σ 6 (0)), .int (iI (w 37 0)), .int (iI (w 38 0)), .int (iI (w 39 0))]) : va_E) = z9 := ⟨_, rfl⟩
                        rw [eM20]
                        have o93 : M20 (σ 0 (0)) = some (.inr (0, [.ref (σ 1 (0)), .int (iI (w 0 0)), .ref (σ 2 (0)), .int (iI ((w 11 0) + (1))), .int (iI ((w 12 0) + (1))), .ref (σ 3 (0)), .int (iI (w 27 0)), .ref (σ 4 (0)), .ref (σ 10 (w 34 0)), .ref (σ 5 (0)), .ref (σ 6 (0)), .int (iI (w 37 0)), .int (iI (w 38 0)), .int (iI (w 39 0))])) := eM20 ▸ zup_s
                        have o94 : M20 a54 = _ := eM20 ▸ (zup_n (fun z9 => fr55 _ _ (Or.inl ⟨by decide, rfl⟩ : xLv w (xL w) 0 0) z9.symm)).trans o92
                        refine z_aload C 204 6 dX0_field_202 rfl rfl ?_
                        refine z_callV (As := []) (rest := []) C hκ hκl 207 (k9_number_r hT (a54) ((w 11 0)) _ _ _ _ _ _ _ _ _ _ _ o94) dX0_field_204 q738 q500 q2572 q103 q502 znX9_number (Nat.le_of_ble_eq_true rfl) (Nat.le_of_ble_eq_true rfl) (Nat.le_of_ble_eq_true rfl) (Nat.le_of_ble_eq_true rfl) (zrec_P o94) rfl rfl (Nat.le_of_ble_eq_true rfl) rfl (fun v9 Q9 h9 => ?_)
                        obtain ⟨rfl, rfl⟩ := h9
                        refine z_as (st' := [.int (iI (((w 11 0))))]) rfl rfl rfl ?_
                        exact z_iret C dX0_field_207 rfl (Nat.le_of_ble_eq_true rfl) (Nat.le_of_ble_eq_true rfl) (by unfold fiI fiW fiO; rw [if_neg (by simp_all), if_neg (by simp_all), if_neg (by omega), if_pos (by simp_all)]; exact ⟨rfl, M20, (xS2 σ (w 11 0) a54 par61 0 a76), rfl, xS2_o (by omega), (by rw [← eM20, ← eM19, ← eM18]; simp only [zup_up]; exact hX9)⟩)
                    · skip
                      refine z_bipush C 118 dX0_field_116 (by decide) rfl ?_
                      exact z_iret C dX0_field_118 rfl (Nat.le_of_ble_eq_true rfl) (Nat.le_of_ble_eq_true rfl) (by unfold fiI fiW fiO; rw [if_neg (by simp_all), if_neg (by simp_all), if_pos (by omega), if_neg (by simp; omega)]; exact xOp_same hX)
                  · skip
                    refine z_bipush C 106 dX0_field_104 (by decide) rfl ?_
                    exact z_iret C dX0_field_106 rfl (Nat.le_of_ble_eq_true rfl) (Nat.le_of_ble_eq_true rfl) (by have h9 : fiN w t n k = true := (by clear C hκ hκl hS hB hB1 hB2 hB3 hB4 hB5 hB6 hC hw hX hs hT h81 h82 f2a f2b f2c f2d f2e f2f f2g f2h f2i f2j f2k f2l; unfold fiN; first | (simp_all; done) | (simp_all <;> omega)); unfold fiI fiW fiO; rw [if_neg (by simp_all), if_pos h9, if_neg (by simp [h9])]; exact xOp_same hX)
              · skip
                rw [xo_y n8]
                refine z_as (st' := [.ref (σ 20 (ofI w (t) (n)))]) (lv' := [(0, .ref (σ 0 (0))), (1, .int (iI (t))), (2, .int (iI (n))), (3, .int (iI (k))), (4, .int (iI (y))), (5, .ref (σ 10 (t)))]) rfl rfl rfl ?_
                refine z_ifnonnull C 104 dX0_field_86 (by decide) ?_
                refine z_bipush C 106 dX0_field_104 (by decide) rfl ?_
                exact z_iret C dX0_field_106 rfl (Nat.le_of_ble_eq_true rfl) (Nat.le_of_ble_eq_true rfl) (by have h9 : fiN w t n k = true := (by clear C hκ hκl hS hB hB1 hB2 hB3 hB4 hB5 hB6 hC hw hX hs hT h81 h82 f2a f2b f2c f2d f2e f2f f2g f2h f2i f2j f2k f2l; unfold fiN; first | (simp_all; done) | (simp_all <;> omega)); unfold fiI fiW fiO; rw [if_neg (by simp_all), if_pos h9, if_neg (by simp [h9])]; exact xOp_same hX)
            · skip
              have c7b : ¬ (0 ≤ (t) ∧ (t) < w 0 0 ∧ (w 1 (t) = 1 ∨ w 1 (t) = 2)) := of_decide_eq_false c7
              refine z_iload_n C 72 3 dX0_field_71 rfl rfl ?_
              refine z_bipush C 74 dX0_field_72 (by decide) rfl ?_
              refine z_icmp_eq C 79 77 dX0_field_74 (by decide) r_k ⟨by decide, by decide⟩ rfl (fun c95 => ?_) (fun c95 => ?_)
              · skip
                have hfB : fiB w t n k y = true := by clear C hκ hκl; unfold fiB; first | (simp_all; done) | (simp_all; done) | (simp_all <;> omega)
                refine z_aload_n C 80 0 dX0_field_79 rfl rfl ?_
                refine z_aload C 82 5 dX0_field_80 rfl rfl ?_
                refine z_iload_n C 83 2 dX0_field_82 rfl rfl ?_
                refine z_callV (As := [.ref (σ 10 (t)), .int (iI (n))]) (rest := []) C hκ hκl 86 (k0_ownField hX hs hw hT (t) (n) r_n ⟨by omega, by omega⟩ hUq) dX0_field_83 q643 q645 qs4 q90 q646 znX0_ownField (Nat.le_of_ble_eq_true rfl) (Nat.le_of_ble_eq_true rfl) (Nat.le_of_ble_eq_true rfl) (Nat.le_of_ble_eq_true rfl) (zrec_P hX.o) rfl rfl (Nat.le_of_ble_eq_true rfl) rfl (fun v9 Q9 h9 => ?_)
                obtain ⟨rfl, rfl⟩ := h9
                refine z_as (st' := [va_rf (xo σ 20 (ofI w (t) (n)))]) rfl rfl rfl ?_
                rcases Int.lt_or_le (ofI w (t) (n)) 0 with n96 | n96
                · skip
                  rw [xo_n n96]
                  refine z_as (st' := [.null]) (lv' := [(0, .ref (σ 0 (0))), (1, .int (iI (t))), (2, .int (iI (n))), (3, .int (iI (k))), (4, .int (iI (y))), (5, .ref (σ 10 (t)))]) rfl rfl rfl ?_
                  refine z_ifnonnullN C 89 dX0_field_86 rfl ?_
                  refine z_iload_n C 90 3 dX0_field_89 rfl rfl ?_
                  refine z_iconst C 91 dX0_field_90 rfl ?_
                  refine z_iand C 92 dX0_field_91 rfl ?_
                  refine z_if_ne C 107 95 dX0_field_92 (by decide) (inR_zand _ _) rfl (fun c97 => ?_) (fun c97 => ?_)
                  · skip
                    have hfr9 := ofI_r (w := w) (t := t) (n := n) (by omega)
                    have hfN : fiN w t n k = false := by unfold fiN; first | (simp_all; done) | (simp_all <;> omega)
                    refine z_aload_n C 108 0 dX0_field_107 rfl rfl ?_
                    refine z_getf C hκ (v := .int (iI (w 11 0))) 111 3 zk_X0 hX.o (by decide) q330 (Or.inl rfl) rfl dX0_field_108 rfl ?_
                    refine z_bipush C 113 dX0_field_111 (by decide) rfl ?_
                    refine z_icmp_ne C 119 116 dX0_field_113 (by decide) ⟨by omega, by omega⟩ ⟨by decide, by decide⟩ rfl (fun c98 => ?_) (fun c98 => ?_)
                    · skip
                      refine z_new (fs := [.int (iI (0)), .null, .int (iI (0)), .int (iI (0)), .int (iI (0)), .null, .null, .int (iI (0)), .int (iI (0)), .int (iI (0)), .null, .null]) C hκ 122 zk_X9 q149 q647 q103 (fun j9 h9 => match j9, h9 with | 0, _ => rfl | 1, _ => rfl | 2, _ => rfl | 3, _ => rfl | 4, _ => rfl | 5, _ => rfl | 6, _ => rfl | 7, _ => rfl | 8, _ => rfl | 9, _ => rfl | 10, _ => rfl | 11, _ => rfl | (j9 + 12), h9 => absurd h9 (by omega)) (Nat.le_of_ble_eq_true rfl) (Nat.le_of_ble_eq_true rfl) dX0_field_119 rfl (fun a99 a99M a99N => ?_)
                      refine z_widen (n' := 1) (k' := 12) (Nat.le_refl _) (Nat.le_refl _) ?_
                      have fr100 : xFr σ w (xL w) a99 := hX.fr a99M
                      have fr101 : M a99 = none := ge0.no a99M
                      obtain ⟨M21, eM21⟩ : ∃ z9 : zMap, zup M a99 (.inr (9, [.int (iI (0)), .null, .int (iI (0)), .int (iI (0)), .int (iI (0)), .null, .null, .int (iI (0)), .int (iI (0)), .int (iI (0)), .null, .null]) : va_E) = z9 := ⟨_, rfl⟩
                      rw [eM21]
                      have hX102 : xM θ σ w (xL w) M21 := eM21 ▸ hX.up fr100
                      have ge103 : zGe M M21 := eM21 ▸ ge0.up fr101
                      have o104 : M21 a99 = some (.inr (9, [.int (iI (0)), .null, .int (iI (0)), .int (iI (0)), .int (iI (0)), .null, .null, .int (iI (0)), .int (iI (0)), .int (iI (0)), .null, .null])) := eM21 ▸ zup_s
                      refine z_dup C 123 dX0_field_122 rfl rfl ?_
                      refine z_aload_n C 124 0 dX0_field_123 rfl rfl ?_
                      refine z_getf C hκ (v := .int (iI (w 11 0))) 127 3 zk_X0 hX102.o (by decide) q330 (Or.inl rfl) rfl dX0_field_124 rfl ?_
                      refine z_aload C 129 5 dX0_field_127 rfl rfl ?_
                      refine z_iload_n C 130 2 dX0_field_129 rfl rfl ?_
                      refine z_iload_n C 131 3 dX0_field_130 rfl rfl ?_
                      refine z_iconst C 132 dX0_field_131 rfl ?_
                      refine z_aload_n C 133 0 dX0_field_132 rfl rfl ?_
                      refine z_getf C hκ (v := .ref (σ 1 (0))) 136 0 zk_X0 hX102.o (by decide) q325 (Or.inl rfl) rfl dX0_field_133 rfl ?_
                      refine z_iload C 138 4 dX0_field_136 rfl rfl ?_
                      refine x_aT C hκ 139 hX102 hs (by omega) (by omega) dX0_field_138 rfl ?_
                      obtain ⟨f105a, f105b, f105c, f105d, f105e, f105f, f105g, f105h⟩ := hS.T (show 0 ≤ y by omega) (by omega)
                      obtain ⟨f105i, f105j, f105k, f105l⟩ := hs.ty (show 0 ≤ y by omega) (by omega)
                      refine z_callI (As := [.int (iI (w 11 0)), .ref (σ 10 (t)), .int (iI (n)), .int (iI (k)), .int (iI (1)), .ref (σ 10 (y))]) (rest := [.ref (a99)]) C hκ hκl 142 (k9_init_9 hT (a99) (w 11 0) (σ 10 (t)) (n) (k) (true) (some (σ 10 (y))) ⟨by omega, by omega⟩ r_n r_k o104) dX0_field_139 q648 q649 q103 q650 znX9_init rfl (Nat.le_of_ble_eq_true rfl) (Nat.le_of_ble_eq_true rfl) (Nat.le_of_ble_eq_true rfl) (Nat.le_of_ble_eq_true rfl) rfl (Nat.le_of_ble_eq_true rfl) rfl (fun v9 Q9 h9 => ?_)
                      obtain ⟨rfl, Mr106, par106, rfl, fxr106, oar106, hpar106, gpar106, ipar106⟩ := h9
                      have ne107 : a99 ≠ par106 := fun z9 => by have z8 := o104; rw [z9, gpar106] at z8; cases z8
                      have fr108 : xFr σ w (xL w) par106 := hX102.fr gpar106
                      have fr109 : M par106 = none := ge103.no gpar106
                      have hX110 : xM θ σ w (xL w) Mr106 := hX102.fx fxr106 fr100
                      have ge111 : zGe M Mr106 := ge103.fx fxr106 fr101
                      refine z_as (Pic' := zP θ Mr106 N) (st' := [.ref (a99)]) rfl rfl rfl ?_
                      refine z_widen (n' := 2) (k' := 15) (Nat.le_refl _) (Nat.le_refl _) ?_
                      refine z_astore (lv' := [(0, .ref (σ 0 (0))), (1, .int (iI (t))), (2, .int (iI (n))), (3, .int (iI (k))), (4, .int (iI (y))), (5, .ref (σ 10 (t))), (6, .ref (a99))]) C 144 [1, 2, 3, 4, 5, 6, 0] dX0_field_142 (by decide) rfl rfl ?_
                      refine z_aload C 146 6 dX0_field_144 rfl rfl ?_
                      refine z_aload C 148 6 dX0_field_146 rfl rfl ?_
                      refine z_iconst C 149 dX0_field_148 rfl ?_
                      refine z_callV (As := [.int (iI (4))]) (rest := [.ref (a99)]) C hκ hκl 152 (k9_has_r hT (a99) (4) (k) _ _ _ _ _ _ _ _ _ _ _ ⟨by decide, by decide⟩ oar106) dX0_field_149 q711 q712 q713 q103 q714 znX9_has (Nat.le_of_ble_eq_true rfl) (Nat.le_of_ble_eq_true rfl) (Nat.le_of_ble_eq_true rfl) (Nat.le_of_ble_eq_true rfl) (zrec_P oar106) rfl rfl (Nat.le_of_ble_eq_true rfl) rfl (fun v9 Q9 h9 => ?_)
                      obtain ⟨rfl, rfl⟩ := h9
                      refine z_as (st' := [.int (iI (bI (decide (zand (k) (4) ≠ 0)))), .ref (a99)]) rfl rfl rfl ?_
                      refine z_ifB_eq C 167 155 dX0_field_152 (by decide) rfl (fun c112 => ?_) (fun c112 => ?_)
                      · skip
                        have c112b : ¬ ((zand (k) (4) ≠ 0)) := of_decide_eq_false c112
                        refine z_null C 168 dX0_field_167 rfl ?_
                        refine z_putf (fs' := [.int (iI ((w 11 0))), .ref ((σ 10 (t))), .int (iI (n)), .int (iI (k)), .int (iI (bI (true))), .ref (σ 10 (y)), .ref (par106), .int (iI (0)), .int (iI (0)), .int (iI (0)), .null, .null]) C hκ 171 11 zk_X9 oar106 (by decide) q685 (Or.inl rfl) rfl rfl rfl (Nat.le_of_ble_eq_true rfl) rfl dX0_field_168 rfl ?_
                        obtain ⟨M22, eM22⟩ : ∃ z9 : zMap, zup Mr106 a99 (.inr (9, [.int (iI ((w 11 0))), .ref ((σ 10 (t))), .int (iI (n)), .int (iI (k)), .int (iI (bI (true))), .ref (σ 10 (y)), .ref (par106), .int (iI (0)), .int (iI (0)), .int (iI (0)), .null, .null]) : va_E) = z9 := ⟨_, rfl⟩
                        rw [eM22]
                        have o113 : M22 par106 = some (.inl (θ.2.1 8, 3, xQ (fun _ => none))) := eM22 ▸ (zup_n ipar106).trans hpar106
                        have hX114 : xM θ σ w (xL w) M22 := eM22 ▸ hX110.up fr100
                        have ge115 : zGe M M22 := eM22 ▸ ge111.up fr101
                        have o116 : M22 a99 = some (.inr (9, [.int (iI ((w 11 0))), .ref ((σ 10 (t))), .int (iI (n)), .int (iI (k)), .int (iI (bI (true))), .ref (σ 10 (y)), .ref (par106), .int (iI (0)), .int (iI (0)), .int (iI (0)), .null, .null])) := eM22 ▸ zup_s
                        refine z_aload_n C 172 0 dX0_field_171 rfl rfl ?_
                        refine z_getf C hκ (v := .ref (σ 2 (0))) 175 2 zk_X0 hX114.o (by decide) q329 (Or.inl rfl) rfl dX0_field_172 rfl ?_
                        refine z_aload_n C 176 0 dX0_field_175 rfl rfl ?_
                        refine z_getf C hκ (v := .int (iI (w 11 0))) 179 3 zk_X0 hX114.o (by decide) q330 (Or.inl rfl) rfl dX0_field_176 rfl ?_
                        refine z_aload C 181 6 dX0_field_179 rfl rfl ?_
                        obtain ⟨⟨e11, ag, e12⟩, ⟨e13, e14, e15, e16, e17⟩, e18, e20, e21, e22, e26⟩ := fiD (w := w) (t := t) (n := n) (k := k) (y := y) (f := true) (v := w 12 0 + 1)
                        have hcl9 : (dW (mset w 12 0 (w 12 0 + 1)) t n k y true) 16 (w 11 0) = 1 → hasB (dW (mset w 12 0 (w 12 0 + 1)) t n k y true) (w 11 0) 4 = false → ∀ x : Int, 0 ≤ x → x < w 27 0 → w 29 x = -1 → (dW (mset w 12 0 (w 12 0 + 1)) t n k y true) 13 (w 11 0) ∉ xL w (w 28 x) := (fun _ h9 => by rw [e13]; unfold hasB at h9; rw [e15] at h9; exact cc_no hs ⟨by omega, by omega⟩ (by unfold fiN at hfN; simp_all))
                        have hrw : xHasRow (dW (mset w 12 0 (w 12 0 + 1)) t n k y true) (w 11 0) = false := (by unfold xHasRow hasB; rw [e15, e16]; simp_all [bI])
                        have hbw : xHasBody (dW (mset w 12 0 (w 12 0 + 1)) t n k y true) (w 11 0) = false := (by unfold xHasBody; rw [e16]; simp [bI])
                        have hma : M22 a99 = some (.inr (9, xMem (xS2 σ (w 11 0) a99 par106 0 0) (dW (mset w 12 0 (w 12 0 + 1)) t n k y true) (w 11 0))) := o116.trans (by rw [xMem_l e13 e14 e15 e16 e17 e18 e20 e21 (Or.inr rfl) (Or.inl rfl) (Or.inl rfl), hrw, hbw, xo_y (show 0 ≤ y by omega)]; rfl)
                        obtain ⟨f9, hf9, hX9⟩ := newM_put (w2 := dW (mset w 12 0 (w 12 0 + 1)) t n k y true) (n := w 11 0) (a := a99) (pa := par106) (b := 0) (r := 0) hs hbd hX114 rfl (by omega) e11 ag hma ⟨_, o113, fun j hj => by rw [e18] at hj; omega⟩ (fun h => absurd (h.symm.trans hbw) (by decide)) (fun _ => e22) (fun h => absurd (h.symm.trans hrw) (by decide)) fr100 fr108 (fun h => absurd (h.symm.trans hbw) (by decide)) (fun h => absurd (h.symm.trans hrw) (by decide)) hcl9
                        refine z_qast (X := w 11 0) C hκ 182 9 hf9 rfl o116 rfl (by omega) (by omega) (by decide) rfl dX0_field_181 rfl ?_
                        obtain ⟨M23, eM23⟩ : ∃ z9 : zMap, zup M22 (σ 2 (0)) (.inl (θ.2.1 9, 100, xQ (va_up f9 (w 11 0).toNat (some a99))) : va_E) = z9 := ⟨_, rfl⟩
                        rw [eM23]
                        have hM0 : M23 (σ 0 (0)) = _ := eM23 ▸ (zup_n (hX114.ne (Or.inl ⟨by decide, rfl⟩ : xLv w (xL w) 0 0) (Or.inl ⟨by decide, rfl⟩ : xLv w (xL w) 2 0) (by decide))).trans hX114.o
                        have hMa : M23 a99 = _ := eM23 ▸ (zup_n (fun z9 => fr100 _ _ (Or.inl ⟨by decide, rfl⟩ : xLv w (xL w) 2 0) z9.symm)).trans o116
                        refine z_aload_n C 183 0 dX0_field_182 rfl rfl ?_
                        refine z_dup C 184 dX0_field_183 rfl rfl ?_
                        refine z_getf C hκ (v := .int (iI (w 11 0))) 187 3 zk_X0 hM0 (by decide) q330 (Or.inl rfl) rfl dX0_field_184 rfl ?_
                        refine z_iconst C 188 dX0_field_187 rfl ?_
                        refine z_iadd C 189 dX0_field_188 rfl ?_
                        refine z_putf (fs' := [.ref (σ 1 (0)), .int (iI (w 0 0)), .ref (σ 2 (0)), .int (iI ((w 11 0) + (1))), .int (iI (w 12 0)), .ref (σ 3 (0)), .int (iI (w 27 0)), .ref (σ 4 (0)), .ref (σ 10 (w 34 0)), .ref (σ 5 (0)), .ref (σ 6 (0)), .int (iI (w 37 0)), .int (iI (w 38 0)), .int (iI (w 39 0))]) C hκ 192 3 zk_X0 hM0 (by decide) q330 (Or.inl rfl) rfl rfl rfl (Nat.le_of_ble_eq_true rfl) rfl dX0_field_189 rfl ?_
                        obtain ⟨M24, eM24⟩ : ∃ z9 : zMap, zup M23 (σ 0 (0)) (.inr (0, [.ref (σ 1 (0)), .int (iI (w 0 0)), .ref (σ 2 (0)), .int (iI ((w 11 0) + (1))), .int (iI (w 12 0)), .ref (σ 3 (0)), .int (iI (w 27 0)), .ref (σ 4 (0)), .ref (σ 10 (w 34 0)), .ref (σ 5 (0)), .ref (σ 6 (0)), .int (iI (w 37 0)), .int (iI (w 38 0)), .int (iI (w 39 0))]) : va_E) = z9 := ⟨_, rfl⟩
                        rw [eM24]
                        have o117 : M24 (σ 0 (0)) = some (.inr (0, [.ref (σ 1 (0)), .int (iI (w 0 0)), .ref (σ 2 (0)), .int (iI ((w 11 0) + (1))), .int (iI (w 12 0)), .ref (σ 3 (0)), .int (iI (w 27 0)), .ref (σ 4 (0)), .ref (σ 10 (w 34 0)), .ref (σ 5 (0)), .ref (σ 6 (0)), .int (iI (w 37 0)), .int (iI (w 38 0)), .int (iI (w 39 0))])) := eM24 ▸ zup_s
                        have o118 : M24 a99 = _ := eM24 ▸ (zup_n (fun z9 => fr100 _ _ (Or.inl ⟨by decide, rfl⟩ : xLv w (xL w) 0 0) z9.symm)).trans hMa
                        refine z_aload_n C 193 0 dX0_field_192 rfl rfl ?_
                        refine z_dup C 194 dX0_field_193 rfl rfl ?_
                        refine z_getf C hκ (v := .int (iI (w 12 0))) 197 4 zk_X0 o117 (by decide) q331 (Or.inl rfl) rfl dX0_field_194 rfl ?_
                        refine z_iconst C 198 dX0_field_197 rfl ?_
                        refine z_iadd C 199 dX0_field_198 rfl ?_
                        refine z_putf (fs' := [.ref (σ 1 (0)), .int (iI (w 0 0)), .ref (σ 2 (0)), .int (iI ((w 11 0) + (1))), .int (iI ((w 12 0) + (1))), .ref (σ 3 (0)), .int (iI (w 27 0)), .ref (σ 4 (0)), .ref (σ 10 (w 34 0)), .ref (σ 5 (0)), .ref (σ 6 (0)), .int (iI (w 37 0)), .int (iI (w 38 0)), .int (iI (w 39 0))]) C hκ 202 4 zk_X0 o117 (by decide) q331 (Or.inl rfl) rfl rfl rfl (Nat.le_of_ble_eq_true rfl) rfl dX0_field_199 rfl ?_
                        obtain ⟨M25, eM25⟩ : ∃ z9 : zMap, zup M24 (σ 0 (0)) (.inr (0, [.ref (σ 1 (0)), .int (iI (w 0 0)), .ref (σ 2 (0)), .int (iI ((w 11 0) + (1))), .int (iI ((w 12 0) + (1))), .ref (σ 3 (0)), .int (iI (w 27 0)), .ref (σ 4 (0)), .ref (σ 10 (w 34 0)), .ref (σ 5 (0)), .ref (σ 6 (0)), .int (iI (w 37 0)), .int (iI (w 38 0)), .int (iI (w 39 0))]) : va_E) = z9 := ⟨_, rfl⟩
                        rw [eM25]
                        have o119 : M25 (σ 0 (0)) = some (.inr (0, [.ref (σ 1 (0)), .int (iI (w 0 0)), .ref (σ 2 (0)), .int (iI ((w 11 0) + (1))), .int (iI ((w 12 0) + (1))), .ref (σ 3 (0)), .int (iI (w 27 0)), .ref (σ 4 (0)), .ref (σ 10 (w 34 0)), .ref (σ 5 (0)), .ref (σ 6 (0)), .int (iI (w 37 0)), .int (iI (w 38 0)), .int (iI (w 39 0))])) := eM25 ▸ zup_s
                        have o120 : M25 a99 = _ := eM25 ▸ (zup_n (fun z9 => fr100 _ _ (Or.inl ⟨by decide, rfl⟩ : xLv w (xL w) 0 0) z9.symm)).trans o118
                        refine z_aload C 204 6 dX0_field_202 rfl rfl ?_
                        refine z_callV (As := []) (rest := []) C hκ hκl 207 (k9_number_r hT (a99) ((w 11 0)) _ _ _ _ _ _ _ _ _ _ _ o120) dX0_field_204 q738 q500 q2572 q103 q502 znX9_number (Nat.le_of_ble_eq_true rfl) (Nat.le_of_ble_eq_true rfl) (Nat.le_of_ble_eq_true rfl) (Nat.le_of_ble_eq_true rfl) (zrec_P o120) rfl rfl (Nat.le_of_ble_eq_true rfl) rfl (fun v9 Q9 h9 => ?_)
                        obtain ⟨rfl, rfl⟩ := h9
                        refine z_as (st' := [.int (iI (((w 11 0))))]) rfl rfl rfl ?_
                        exact z_iret C dX0_field_207 rfl (Nat.le_of_ble_eq_true rfl) (Nat.le_of_ble_eq_true rfl) (by unfold fiI fiW fiO; rw [if_neg (by simp_all), if_neg (by simp_all), if_neg (by omega), if_pos (by simp_all)]; exact ⟨rfl, M25, (xS2 σ (w 11 0) a99 par106 0 0), rfl, xS2_o (by omega), (by rw [← eM25, ← eM24, ← eM23]; simp only [zup_up]; exact hX9)⟩)
                      · skip
                        have c112b : ((zand (k) (4) ≠ 0)) := of_decide_eq_true c112
                        refine z_aload C 157 6 dX0_field_155 rfl rfl ?_
                        refine z_getf C hκ (v := .ref (σ 10 (y))) 160 5 zk_X9 oar106 (by decide) q672 (Or.inl rfl) rfl dX0_field_157 rfl ?_
                        refine z_iconst C 161 dX0_field_160 rfl ?_
                        refine xv_row (rest := [.ref (a99)]) C hκ hκl hX110 hs hw hT (y) (1) ⟨by decide, by decide⟩ ⟨by omega, by omega⟩ ⟨by omega, by omega⟩ 164 dX0_field_161 q715 (Nat.le_of_ble_eq_true rfl) (Nat.le_of_ble_eq_true rfl) (Nat.le_of_ble_eq_true rfl) (Nat.le_of_ble_eq_true rfl) (Nat.le_of_ble_eq_true rfl) rfl (fun a121 a121e a121M a121R => ?_)
                        have ne122 : a99 ≠ a121 := fun z9 => by have z8 := oar106; rw [z9, a121M] at z8; cases z8
                        have ne123 : par106 ≠ a121 := fun z9 => by have z8 := hpar106; rw [z9, a121M] at z8; cases z8
                        have fr124 : xFr σ w (xL w) a121 := hX110.fr a121M
                        have fr125 : M a121 = none := ge111.no a121M
                        obtain ⟨M26, eM26⟩ : ∃ z9 : zMap, zup Mr106 a121 (a121e : va_E) = z9 := ⟨_, rfl⟩
                        rw [eM26]
                        have o126 : M26 a99 = some (.inr (9, [.int (iI ((w 11 0))), .ref ((σ 10 (t))), .int (iI (n)), .int (iI (k)), .int (iI (bI (true))), .ref (σ 10 (y)), .ref (par106), .int (iI (0)), .int (iI (0)), .int (iI (0)), .null, .null])) := eM26 ▸ (zup_n ne122).trans oar106
                        have o127 : M26 par106 = some (.inl (θ.2.1 8, 3, xQ (fun _ => none))) := eM26 ▸ (zup_n ne123).trans hpar106
                        have hX128 : xM θ σ w (xL w) M26 := eM26 ▸ hX110.up fr124
                        have ge129 : zGe M M26 := eM26 ▸ ge111.up fr125
                        have o130 : M26 a121 = some (a121e) := eM26 ▸ zup_s
                        refine z_goto C 168 dX0_field_164 (by decide) ?_
                        refine z_putf (fs' := [.int (iI ((w 11 0))), .ref ((σ 10 (t))), .int (iI (n)), .int (iI (k)), .int (iI (bI (true))), .ref (σ 10 (y)), .ref (par106), .int (iI (0)), .int (iI (0)), .int (iI (0)), .null, .ref (a121)]) C hκ 171 11 zk_X9 o126 (by decide) q685 (Or.inl rfl) rfl rfl rfl (Nat.le_of_ble_eq_true rfl) rfl dX0_field_168 rfl ?_
                        obtain ⟨M27, eM27⟩ : ∃ z9 : zMap, zup M26 a99 (.inr (9, [.int (iI ((w 11 0))), .ref ((σ 10 (t))), .int (iI (n)), .int (iI (k)), .int (iI (bI (true))), .ref (σ 10 (y)), .ref (par106), .int (iI (0)), .int (iI (0)), .int (iI (0)), .null, .ref (a121)]) : va_E) = z9 := ⟨_, rfl⟩
                        rw [eM27]
                        have o131 : M27 par106 = some (.inl (θ.2.1 8, 3, xQ (fun _ => none))) := eM27 ▸ (zup_n ipar106).trans o127
                        have o132 : M27 a121 = some (a121e) := eM27 ▸ (zup_n (fun z9 => ne122 z9.symm)).trans o130
                        have hX133 : xM θ σ w (xL w) M27 := eM27 ▸ hX128.up fr100
                        have ge134 : zGe M M27 := eM27 ▸ ge129.up fr101
                        have o135 : M27 a99 = some (.inr (9, [.int (iI ((w 11 0))), .ref ((σ 10 (t))), .int (iI (n)), .int (iI (k)), .int (iI (bI (true))), .ref (σ 10 (y)), .ref (par106), .int (iI (0)), .int (iI (0)), .int (iI (0)), .null, .ref (a121)])) := eM27 ▸ zup_s
                        refine z_aload_n C 172 0 dX0_field_171 rfl rfl ?_
                        refine z_getf C hκ (v := .ref (σ 2 (0))) 175 2 zk_X0 hX133.o (by decide) q329 (Or.inl rfl) rfl dX0_field_172 rfl ?_
                        refine z_aload_n C 176 0 dX0_field_175 rfl rfl ?_
                        refine z_getf C hκ (v := .int (iI (w 11 0))) 179 3 zk_X0 hX133.o (by decide) q330 (Or.inl rfl) rfl dX0_field_176 rfl ?_
                        refine z_aload C 181 6 dX0_field_179 rfl rfl ?_
                        obtain ⟨⟨e11, ag, e12⟩, ⟨e13, e14, e15, e16, e17⟩, e18, e20, e21, e22, e26⟩ := fiD (w := w) (t := t) (n := n) (k := k) (y := y) (f := true) (v := w 12 0 + 1)
                        have hcl9 : (dW (mset w 12 0 (w 12 0 + 1)) t n k y true) 16 (w 11 0) = 1 → hasB (dW (mset w 12 0 (w 12 0 + 1)) t n k y true) (w 11 0) 4 = false → ∀ x : Int, 0 ≤ x → x < w 27 0 → w 29 x = -1 → (dW (mset w 12 0 (w 12 0 + 1)) t n k y true) 13 (w 11 0) ∉ xL w (w 28 x) := (fun _ h9 => by rw [e13]; unfold hasB at h9; rw [e15] at h9; exact cc_no hs ⟨by omega, by omega⟩ (by unfold fiN at hfN; simp_all))
                        have hrw : xHasRow (dW (mset w 12 0 (w 12 0 + 1)) t n k y true) (w 11 0) = true := (by unfold xHasRow hasB; rw [e15, e16]; simp_all [bI])
                        have hbw : xHasBody (dW (mset w 12 0 (w 12 0 + 1)) t n k y true) (w 11 0) = false := (by unfold xHasBody; rw [e16]; simp [bI])
                        have hma : M27 a99 = some (.inr (9, xMem (xS2 σ (w 11 0) a99 par106 0 a121) (dW (mset w 12 0 (w 12 0 + 1)) t n k y true) (w 11 0))) := o135.trans (by rw [xMem_l e13 e14 e15 e16 e17 e18 e20 e21 (Or.inr rfl) (Or.inl rfl) (Or.inl rfl), hrw, hbw, xo_y (show 0 ≤ y by omega)]; rfl)
                        obtain ⟨f9, hf9, hX9⟩ := newM_put (w2 := dW (mset w 12 0 (w 12 0 + 1)) t n k y true) (n := w 11 0) (a := a99) (pa := par106) (b := 0) (r := a121) hs hbd hX133 rfl (by omega) e11 ag hma ⟨_, o131, fun j hj => by rw [e18] at hj; omega⟩ (fun h => absurd (h.symm.trans hbw) (by decide)) (fun _ => e22) (fun _ => ⟨_, o132, (by rw [e17, e26]; exact a121R)⟩) fr100 fr108 (fun h => absurd (h.symm.trans hbw) (by decide)) (fun _ => fr124) hcl9
                        refine z_qast (X := w 11 0) C hκ 182 9 hf9 rfl o135 rfl (by omega) (by omega) (by decide) rfl dX0_field_181 rfl ?_
                        obtain ⟨M28, eM28⟩ : ∃ z9 : zMap, zup M27 (σ 2 (0)) (.inl (θ.2.1 9, 100, xQ (va_up f9 (w 11 0).toNat (some a99))) : va_E) = z9 := ⟨_, rfl⟩
                        rw [eM28]
                        have hM0 : M28 (σ 0 (0)) = _ := eM28 ▸ (zup_n (hX133.ne (Or.inl ⟨by decide, rfl⟩ : xLv w (xL w) 0 0) (Or.inl ⟨by decide, rfl⟩ : xLv w (xL w) 2 0) (by decide))).trans hX133.o
                        have hMa : M28 a99 = _ := eM28 ▸ (zup_n (fun z9 => fr100 _ _ (Or.inl ⟨by decide, rfl⟩ : xLv w (xL w) 2 0) z9.symm)).trans o135
                        refine z_aload_n C 183 0 dX0_field_182 rfl rfl ?_
                        refine z_dup C 184 dX0_field_183 rfl rfl ?_
                        refine z_getf C hκ (v := .int (iI (w 11 0))) 187 3 zk_X0 hM0 (by decide) q330 (Or.inl rfl) rfl dX0_field_184 rfl ?_
                        refine z_iconst C 188 dX0_field_187 rfl ?_
                        refine z_iadd C 189 dX0_field_188 rfl ?_
                        refine z_putf (fs' := [.ref (σ 1 (0)), .int (iI (w 0 0)), .ref (σ 2 (0)), .int (iI ((w 11 0) + (1))), .int (iI (w 12 0)), .ref (σ 3 (0)), .int (iI (w 27 0)), .ref (σ 4 (0)), .ref (σ 10 (w 34 0)), .ref (σ 5 (0)), .ref (σ 6 (0)), .int (iI (w 37 0)), .int (iI (w 38 0)), .int (iI (w 39 0))]) C hκ 192 3 zk_X0 hM0 (by decide) q330 (Or.inl rfl) rfl rfl rfl (Nat.le_of_ble_eq_true rfl) rfl dX0_field_189 rfl ?_
                        obtain ⟨M29, eM29⟩ : ∃ z9 : zMap, zup M28 (σ 0 (0)) (.inr (0, [.ref (σ 1 (0)), .int (iI (w 0 0)), .ref (σ 2 (0)), .int (iI ((w 11 0) + (1))), .int (iI (w 12 0)), .ref (σ 3 (0)), .int (iI (w 27 0)), .ref (σ 4 (0)), .ref (σ 10 (w 34 0)), .ref (σ 5 (0)), .ref (σ 6 (0)), .int (iI (w 37 0)), .int (iI (w 38 0)), .int (iI (w 39 0))]) : va_E) = z9 := ⟨_, rfl⟩
                        rw [eM29]
                        have o136 : M29 (σ 0 (0)) = some (.inr (0, [.ref (σ 1 (0)), .int (iI (w 0 0)), .ref (σ 2 (0)), .int (iI ((w 11 0) + (1))), .int (iI (w 12 0)), .ref (σ 3 (0)), .int (iI (w 27 0)), .ref (σ 4 (0)), .ref (σ 10 (w 34 0)), .ref (σ 5 (0)), .ref (σ 6 (0)), .int (iI (w 37 0)), .int (iI (w 38 0)), .int (iI (w 39 0))])) := eM29 ▸ zup_s
                        have o137 : M29 a99 = _ := eM29 ▸ (zup_n (fun z9 => fr100 _ _ (Or.inl ⟨by decide, rfl⟩ : xLv w (xL w) 0 0) z9.symm)).trans hMa
                        refine z_aload_n C 193 0 dX0_field_192 rfl rfl ?_
                        refine z_dup C 194 dX0_field_193 rfl rfl ?_
                        refine z_getf C hκ (v := .int (iI (w 12 0))) 197 4 zk_X0 o136 (by decide) q331 (Or.inl rfl) rfl dX0_field_194 rfl ?_
                        refine z_iconst C 198 dX0_field_197 rfl ?_
                        refine z_iadd C 199 dX0_field_198 rfl ?_
                        refine z_putf (fs' := [.ref (σ 1 (0)), .int (iI (w 0 0)), .ref (σ 2 (0)), .int (iI ((w 11 0) + (1))), .int (iI ((w 12 0) + (1))), .ref (σ 3 (0)), .int (iI (w 27 0)), .ref (σ 4 (0)), .ref (σ 10 (w 34 0)), .ref (σ 5 (0)), .ref (σ 6 (0)), .int (iI (w 37 0)), .int (iI (w 38 0)), .int (iI (w 39 0))]) C hκ 202 4 zk_X0 o136 (by decide) q331 (Or.inl rfl) rfl rfl rfl (Nat.le_of_ble_eq_true rfl) rfl dX0_field_199 rfl ?_
                        obtain ⟨M30, eM30⟩ : ∃ z9 : zMap, zup M29 (σ 0 (0)) (.inr (0, [.ref (σ 1 (0)), .int (iI (w 0 0)), .ref (σ 2 (0)), .int (iI ((w 11 0) + (1))), .int (iI ((w 12 0) + (1))), .ref (σ 3 (0)), .int (iI (w 27 0)), .ref (σ 4 (0)), .ref (σ 10 (w 34 0)), .ref (σ 5 (0)), .ref (σ 6 (0)), .int (iI (w 37 0)), .int (iI (w 38 0)), .int (iI (w 39 0))]) : va_E) = z9 := ⟨_, rfl⟩
                        rw [eM30]
                        have o138 : M30 (σ 0 (0)) = some (.inr (0, [.ref (σ 1 (0)), .int (iI (w 0 0)), .ref (σ 2 (0)), .int (iI ((w 11 0) + (1))), .int (iI ((w 12 0) + (1))), .ref (σ 3 (0)), .int (iI (w 27 0)), .ref (σ 4 (0)), .ref (σ 10 (w 34 0)), .ref (σ 5 (0)), .ref (σ 6 (0)), .int (iI (w 37 0)), .int (iI (w 38 0)), .int (iI (w 39 0))])) := eM30 ▸ zup_s
                        have o139 : M30 a99 = _ := eM30 ▸ (zup_n (fun z9 => fr100 _ _ (Or.inl ⟨by decide, rfl⟩ : xLv w (xL w) 0 0) z9.symm)).trans o137
                        refine z_aload C 204 6 dX0_field_202 rfl rfl ?_
                        refine z_callV (As := []) (rest := []) C hκ hκl 207 (k9_number_r hT (a99) ((w 11 0)) _ _ _ _ _ _ _ _ _ _ _ o139) dX0_field_204 q738 q500 q2572 q103 q502 znX9_number (Nat.le_of_ble_eq_true rfl) (Nat.le_of_ble_eq_true rfl) (Nat.le_of_ble_eq_true rfl) (Nat.le_of_ble_eq_true rfl) (zrec_P o139) rfl rfl (Nat.le_of_ble_eq_true rfl) rfl (fun v9 Q9 h9 => ?_)
                        obtain ⟨rfl, rfl⟩ := h9
                        refine z_as (st' := [.int (iI (((w 11 0))))]) rfl rfl rfl ?_
                        exact z_iret C dX0_field_207 rfl (Nat.le_of_ble_eq_true rfl) (Nat.le_of_ble_eq_true rfl) (by unfold fiI fiW fiO; rw [if_neg (by simp_all), if_neg (by simp_all), if_neg (by omega), if_pos (by simp_all)]; exact ⟨rfl, M30, (xS2 σ (w 11 0) a99 par106 0 a121), rfl, xS2_o (by omega), (by rw [← eM30, ← eM29, ← eM28]; simp only [zup_up]; exact hX9)⟩)
                    · skip
                      refine z_bipush C 118 dX0_field_116 (by decide) rfl ?_
                      exact z_iret C dX0_field_118 rfl (Nat.le_of_ble_eq_true rfl) (Nat.le_of_ble_eq_true rfl) (by unfold fiI fiW fiO; rw [if_neg (by simp_all), if_neg (by simp_all), if_pos (by omega), if_neg (by simp; omega)]; exact xOp_same hX)
                  · skip
                    refine z_aload_n C 96 0 dX0_field_95 rfl rfl ?_
                    refine z_aload C 98 5 dX0_field_96 rfl rfl ?_
                    refine z_callV (As := [.ref (σ 10 (t))]) (rest := []) C hκ hκl 101 (k0_isClosed hX hs hw hT (t) ⟨by omega, by omega⟩) dX0_field_98 q552 q554 qs3 q90 q555 znX0_isClosed (Nat.le_of_ble_eq_true rfl) (Nat.le_of_ble_eq_true rfl) (Nat.le_of_ble_eq_true rfl) (Nat.le_of_ble_eq_true rfl) (zrec_P hX.o) rfl rfl (Nat.le_of_ble_eq_true rfl) rfl (fun v9 Q9 h9 => ?_)
                    obtain ⟨rfl, rfl⟩ := h9
                    refine z_as (st' := [.int (iI (bI (ccB w (t))))]) rfl rfl rfl ?_
                    refine z_ifB_eq C 107 104 dX0_field_101 (by decide) rfl (fun c140 => ?_) (fun c140 => ?_)
                    · skip
                      have hfr9 := ofI_r (w := w) (t := t) (n := n) (by omega)
                      have hfN : fiN w t n k = false := by unfold fiN; first | (simp_all; done) | (simp_all <;> omega)
                      refine z_aload_n C 108 0 dX0_field_107 rfl rfl ?_
                      refine z_getf C hκ (v := .int (iI (w 11 0))) 111 3 zk_X0 hX.o (by decide) q330 (Or.inl rfl) rfl dX0_field_108 rfl ?_
                      refine z_bipush C 113 dX0_field_111 (by decide) rfl ?_
                      refine z_icmp_ne C 119 116 dX0_field_113 (by decide) ⟨by omega, by omega⟩ ⟨by decide, by decide⟩ rfl (fun c141 => ?_) (fun c141 => ?_)
                      · skip
                        refine z_new (fs := [.int (iI (0)), .null, .int (iI (0)), .int (iI (0)), .int (iI (0)), .null, .null, .int (iI (0)), .int (iI (0)), .int (iI (0)), .null, .null]) C hκ 122 zk_X9 q149 q647 q103 (fun j9 h9 => match j9, h9 with | 0, _ => rfl | 1, _ => rfl | 2, _ => rfl | 3, _ => rfl | 4, _ => rfl | 5, _ => rfl | 6, _ => rfl | 7, _ => rfl | 8, _ => rfl | 9, _ => rfl | 10, _ => rfl | 11, _ => rfl | (j9 + 12), h9 => absurd h9 (by omega)) (Nat.le_of_ble_eq_true rfl) (Nat.le_of_ble_eq_true rfl) dX0_field_119 rfl (fun a142 a142M a142N => ?_)
                        refine z_widen (n' := 1) (k' := 12) (Nat.le_refl _) (Nat.le_refl _) ?_
                        have fr143 : xFr σ w (xL w) a142 := hX.fr a142M
                        have fr144 : M a142 = none := ge0.no a142M
                        obtain ⟨M31, eM31⟩ : ∃ z9 : zMap, zup M a142 (.inr (9, [.int (iI (0)), .null, .int (iI (0)), .int (iI (0)), .int (iI (0)), .null, .null, .int (iI (0)), .int (iI (0)), .int (iI (0)), .null, .null]) : va_E) = z9 := ⟨_, rfl⟩
                        rw [eM31]
                        have hX145 : xM θ σ w (xL w) M31 := eM31 ▸ hX.up fr143
                        have ge146 : zGe M M31 := eM31 ▸ ge0.up fr144
                        have o147 : M31 a142 = some (.inr (9, [.int (iI (0)), .null, .int (iI (0)), .int (iI (0)), .int (iI (0)), .null, .null, .int (iI (0)), .int (iI (0)), .int (iI (0)), .null, .null])) := eM31 ▸ zup_s
                        refine z_dup C 123 dX0_field_122 rfl rfl ?_
                        refine z_aload_n C 124 0 dX0_field_123 rfl rfl ?_
                        refine z_getf C hκ (v := .int (iI (w 11 0))) 127 3 zk_X0 hX145.o (by decide) q330 (Or.inl rfl) rfl dX0_field_124 rfl ?_
                        refine z_aload C 129 5 dX0_field_127 rfl rfl ?_
                        refine z_iload_n C 130 2 dX0_field_129 rfl rfl ?_
                        refine z_iload_n C 131 3 dX0_field_130 rfl rfl ?_
                        refine z_iconst C 132 dX0_field_131 rfl ?_
                        refine z_aload_n C 133 0 dX0_field_132 rfl rfl ?_
                        refine z_getf C hκ (v := .ref (σ 1 (0))) 136 0 zk_X0 hX145.o (by decide) q325 (Or.inl rfl) rfl dX0_field_133 rfl ?_
                        refine z_iload C 138 4 dX0_field_136 rfl rfl ?_
                        refine x_aT C hκ 139 hX145 hs (by omega) (by omega) dX0_field_138 rfl ?_
                        obtain ⟨f148a, f148b, f148c, f148d, f148e, f148f, f148g, f148h⟩ := hS.T (show 0 ≤ y by omega) (by omega)
                        obtain ⟨f148i, f148j, f148k, f148l⟩ := hs.ty (show 0 ≤ y by omega) (by omega)
                        refine z_callI (As := [.int (iI (w 11 0)), .ref (σ 10 (t)), .int (iI (n)), .int (iI (k)), .int (iI (1)), .ref (σ 10 (y))]) (rest := [.ref (a142)]) C hκ hκl 142 (k9_init_9 hT (a142) (w 11 0) (σ 10 (t)) (n) (k) (true) (some (σ 10 (y))) ⟨by omega, by omega⟩ r_n r_k o147) dX0_field_139 q648 q649 q103 q650 znX9_init rfl (Nat.le_of_ble_eq_true rfl) (Nat.le_of_ble_eq_true rfl) (Nat.le_of_ble_eq_true rfl) (Nat.le_of_ble_eq_true rfl) rfl (Nat.le_of_ble_eq_true rfl) rfl (fun v9 Q9 h9 => ?_)
                        obtain ⟨rfl, Mr149, par149, rfl, fxr149, oar149, hpar149, gpar149, ipar149⟩ := h9
                        have ne150 : a142 ≠ par149 := fun z9 => by have z8 := o147; rw [z9, gpar149] at z8; cases z8
                        have fr151 : xFr σ w (xL w) par149 := hX145.fr gpar149
                        have fr152 : M par149 = none := ge146.no gpar149
                        have hX153 : xM θ σ w (xL w) Mr149 := hX145.fx fxr149 fr143
                        have ge154 : zGe M Mr149 := ge146.fx fxr149 fr144
                        refine z_as (Pic' := zP θ Mr149 N) (st' := [.ref (a142)]) rfl rfl rfl ?_
                        refine z_widen (n' := 2) (k' := 15) (Nat.le_refl _) (Nat.le_refl _) ?_
                        refine z_astore (lv' := [(0, .ref (σ 0 (0))), (1, .int (iI (t))), (2, .int (iI (n))), (3, .int (iI (k))), (4, .int (iI (y))), (5, .ref (σ 10 (t))), (6, .ref (a142))]) C 144 [1, 2, 3, 4, 5, 6, 0] dX0_field_142 (by decide) rfl rfl ?_
                        refine z_aload C 146 6 dX0_field_144 rfl rfl ?_
                        refine z_aload C 148 6 dX0_field_146 rfl rfl ?_
                        refine z_iconst C 149 dX0_field_148 rfl ?_
                        refine z_callV (As := [.int (iI (4))]) (rest := [.ref (a142)]) C hκ hκl 152 (k9_has_r hT (a142) (4) (k) _ _ _ _ _ _ _ _ _ _ _ ⟨by decide, by decide⟩ oar149) dX0_field_149 q711 q712 q713 q103 q714 znX9_has (Nat.le_of_ble_eq_true rfl) (Nat.le_of_ble_eq_true rfl) (Nat.le_of_ble_eq_true rfl) (Nat.le_of_ble_eq_true rfl) (zrec_P oar149) rfl rfl (Nat.le_of_ble_eq_true rfl) rfl (fun v9 Q9 h9 => ?_)
                        obtain ⟨rfl, rfl⟩ := h9
                        refine z_as (st' := [.int (iI (bI (decide (zand (k) (4) ≠ 0)))), .ref (a142)]) rfl rfl rfl ?_
                        refine z_ifB_eq C 167 155 dX0_field_152 (by decide) rfl (fun c155 => ?_) (fun c155 => ?_)
                        · skip
                          have c155b : ¬ ((zand (k) (4) ≠ 0)) := of_decide_eq_false c155
                          refine z_null C 168 dX0_field_167 rfl ?_
                          refine z_putf (fs' := [.int (iI ((w 11 0))), .ref ((σ 10 (t))), .int (iI (n)), .int (iI (k)), .int (iI (bI (true))), .ref (σ 10 (y)), .ref (par149), .int (iI (0)), .int (iI (0)), .int (iI (0)), .null, .null]) C hκ 171 11 zk_X9 oar149 (by decide) q685 (Or.inl rfl) rfl rfl rfl (Nat.le_of_ble_eq_true rfl) rfl dX0_field_168 rfl ?_
                          obtain ⟨M32, eM32⟩ : ∃ z9 : zMap, zup Mr149 a142 (.inr (9, [.int (iI ((w 11 0))), .ref ((σ 10 (t))), .int (iI (n)), .int (iI (k)), .int (iI (bI (true))), .ref (σ 10 (y)), .ref (par149), .int (iI (0)), .int (iI (0)), .int (iI (0)), .null, .null]) : va_E) = z9 := ⟨_, rfl⟩
                          rw [eM32]
                          have o156 : M32 par149 = some (.inl (θ.2.1 8, 3, xQ (fun _ => none))) := eM32 ▸ (zup_n ipar149).trans hpar149
                          have hX157 : xM θ σ w (xL w) M32 := eM32 ▸ hX153.up fr143
                          have ge158 : zGe M M32 := eM32 ▸ ge154.up fr144
                          have o159 : M32 a142 = some (.inr (9, [.int (iI ((w 11 0))), .ref ((σ 10 (t))), .int (iI (n)), .int (iI (k)), .int (iI (bI (true))), .ref (σ 10 (y)), .ref (par149), .int (iI (0)), .int (iI (0)), .int (iI (0)), .null, .null])) := eM32 ▸ zup_s
                          refine z_aload_n C 172 0 dX0_field_171 rfl rfl ?_
                          refine z_getf C hκ (v := .ref (σ 2 (0))) 175 2 zk_X0 hX157.o (by decide) q329 (Or.inl rfl) rfl dX0_field_172 rfl ?_
                          refine z_aload_n C 176 0 dX0_field_175 rfl rfl ?_
                          refine z_getf C hκ (v := .int (iI (w 11 0))) 179 3 zk_X0 hX157.o (by decide) q330 (Or.inl rfl) rfl dX0_field_176 rfl ?_
                          refine z_aload C 181 6 dX0_field_179 rfl rfl ?_
                          obtain ⟨⟨e11, ag, e12⟩, ⟨e13, e14, e15, e16, e17⟩, e18, e20, e21, e22, e26⟩ := fiD (w := w) (t := t) (n := n) (k := k) (y := y) (f := true) (v := w 12 0 + 1)
                          have hcl9 : (dW (mset w 12 0 (w 12 0 + 1)) t n k y true) 16 (w 11 0) = 1 → hasB (dW (mset w 12 0 (w 12 0 + 1)) t n k y true) (w 11 0) 4 = false → ∀ x : Int, 0 ≤ x → x < w 27 0 → w 29 x = -1 → (dW (mset w 12 0 (w 12 0 + 1)) t n k y true) 13 (w 11 0) ∉ xL w (w 28 x) := (fun _ h9 => by rw [e13]; unfold hasB at h9; rw [e15] at h9; exact cc_no hs ⟨by omega, by omega⟩ (by unfold fiN at hfN; simp_all))
                          have hrw : xHasRow (dW (mset w 12 0 (w 12 0 + 1)) t n k y true) (w 11 0) = false := (by unfold xHasRow hasB; rw [e15, e16]; simp_all [bI])
                          have hbw : xHasBody (dW (mset w 12 0 (w 12 0 + 1)) t n k y true) (w 11 0) = false := (by unfold xHasBody; rw [e16]; simp [bI])
                          have hma : M32 a142 = some (.inr (9, xMem (xS2 σ (w 11 0) a142 par149 0 0) (dW (mset w 12 0 (w 12 0 + 1)) t n k y true) (w 11 0))) := o159.trans (by rw [xMem_l e13 e14 e15 e16 e17 e18 e20 e21 (Or.inr rfl) (Or.inl rfl) (Or.inl rfl), hrw, hbw, xo_y (show 0 ≤ y by omega)]; rfl)
                          obtain ⟨f9, hf9, hX9⟩ := newM_put (w2 := dW (mset w 12 0 (w 12 0 + 1)) t n k y true) (n := w 11 0) (a := a142) (pa := par149) (b := 0) (r := 0) hs hbd hX157 rfl (by omega) e11 ag hma ⟨_, o156, fun j hj => by rw [e18] at hj; omega⟩ (fun h => absurd (h.symm.trans hbw) (by decide)) (fun _ => e22) (fun h => absurd (h.symm.trans hrw) (by decide)) fr143 fr151 (fun h => absurd (h.symm.trans hbw) (by decide)) (fun h => absurd (h.symm.trans hrw) (by decide)) hcl9
                          refine z_qast (X := w 11 0) C hκ 182 9 hf9 rfl o159 rfl (by omega) (by omega) (by decide) rfl dX0_field_181 rfl ?_
                          obtain ⟨M33, eM33⟩ : ∃ z9 : zMap, zup M32 (σ 2 (0)) (.inl (θ.2.1 9, 100, xQ (va_up f9 (w 11 0).toNat (some a142))) : va_E) = z9 := ⟨_, rfl⟩
                          rw [eM33]
                          have hM0 : M33 (σ 0 (0)) = _ := eM33 ▸ (zup_n (hX157.ne (Or.inl ⟨by decide, rfl⟩ : xLv w (xL w) 0 0) (Or.inl ⟨by decide, rfl⟩ : xLv w (xL w) 2 0) (by decide))).trans hX157.o
                          have hMa : M33 a142 = _ := eM33 ▸ (zup_n (fun z9 => fr143 _ _ (Or.inl ⟨by decide, rfl⟩ : xLv w (xL w) 2 0) z9.symm)).trans o159
                          refine z_aload_n C 183 0 dX0_field_182 rfl rfl ?_
                          refine z_dup C 184 dX0_field_183 rfl rfl ?_
                          refine z_getf C hκ (v := .int (iI (w 11 0))) 187 3 zk_X0 hM0 (by decide) q330 (Or.inl rfl) rfl dX0_field_184 rfl ?_
                          refine z_iconst C 188 dX0_field_187 rfl ?_
                          refine z_iadd C 189 dX0_field_188 rfl ?_
                          refine z_putf (fs' := [.ref (σ 1 (0)), .int (iI (w 0 0)), .ref (σ 2 (0)), .int (iI ((w 11 0) + (1))), .int (iI (w 12 0)), .ref (σ 3 (0)), .int (iI (w 27 0)), .ref (σ 4 (0)), .ref (σ 10 (w 34 0)), .ref (σ 5 (0)), .ref (σ 6 (0)), .int (iI (w 37 0)), .int (iI (w 38 0)), .int (iI (w 39 0))]) C hκ 192 3 zk_X0 hM0 (by decide) q330 (Or.inl rfl) rfl rfl rfl (Nat.le_of_ble_eq_true rfl) rfl dX0_field_189 rfl ?_
                          obtain ⟨M34, eM34⟩ : ∃ z9 : zMap, zup M33 (σ 0 (0)) (.inr (0, [.ref (σ 1 (0)), .int (iI (w 0 0)), .ref (σ 2 (0)), .int (iI ((w 11 0) + (1))), .int (iI (w 12 0)), .ref (σ 3 (0)), .int (iI (w 27 0)), .ref (σ 4 (0)), .ref (σ 10 (w 34 0)), .ref (σ 5 (0)), .ref (σ 6 (0)), .int (iI (w 37 0)), .int (iI (w 38 0)), .int (iI (w 39 0))]) : va_E) = z9 := ⟨_, rfl⟩
                          rw [eM34]
                          have o160 : M34 (σ 0 (0)) = some (.inr (0, [.ref (σ 1 (0)), .int (iI (w 0 0)), .ref (σ 2 (0)), .int (iI ((w 11 0) + (1))), .int (iI (w 12 0)), .ref (σ 3 (0)), .int (iI (w 27 0)), .ref (σ 4 (0)), .ref (σ 10 (w 34 0)), .ref (σ 5 (0)), .ref (σ 6 (0)), .int (iI (w 37 0)), .int (iI (w 38 0)), .int (iI (w 39 0))])) := eM34 ▸ zup_s
                          have o161 : M34 a142 = _ := eM34 ▸ (zup_n (fun z9 => fr143 _ _ (Or.inl ⟨by decide, rfl⟩ : xLv w (xL w) 0 0) z9.symm)).trans hMa
                          refine z_aload_n C 193 0 dX0_field_192 rfl rfl ?_
                          refine z_dup C 194 dX0_field_193 rfl rfl ?_
                          refine z_getf C hκ (v := .int (iI (w 12 0))) 197 4 zk_X0 o160 (by decide) q331 (Or.inl rfl) rfl dX0_field_194 rfl ?_
                          refine z_iconst C 198 dX0_field_197 rfl ?_
                          refine z_iadd C 199 dX0_field_198 rfl ?_
                          refine z_putf (fs' := [.ref (σ 1 (0)), .int (iI (w 0 0)), .ref (σ 2 (0)), .int (iI ((w 11 0) + (1))), .int (iI ((w 12 0) + (1))), .ref (σ 3 (0)), .int (iI (w 27 0)), .ref (σ 4 (0)), .ref (σ 10 (w 34 0)), .ref (σ 5 (0)), .ref (σ 6 (0)), .int (iI (w 37 0)), .int (iI (w 38 0)), .int (iI (w 39 0))]) C hκ 202 4 zk_X0 o160 (by decide) q331 (Or.inl rfl) rfl rfl rfl (Nat.le_of_ble_eq_true rfl) rfl dX0_field_199 rfl ?_
                          obtain ⟨M35, eM35⟩ : ∃ z9 : zMap, zup M34 (σ 0 (0)) (.inr (0, [.ref (σ 1 (0)), .int (iI (w 0 0)), .ref (σ 2 (0)), .int (iI ((w 11 0) + (1))), .int (iI ((w 12 0) + (1))), .ref (σ 3 (0)), .int (iI (w 27 0)), .ref (σ 4 (0)), .ref (σ 10 (w 34 0)), .ref (σ 5 (0)), .ref (σ 6 (0)), .int (iI (w 37 0)), .int (iI (w 38 0)), .int (iI (w 39 0))]) : va_E) = z9 := ⟨_, rfl⟩
                          rw [eM35]
                          have o162 : M35 (σ 0 (0)) = some (.inr (0, [.ref (σ 1 (0)), .int (iI (w 0 0)), .ref (σ 2 (0)), .int (iI ((w 11 0) + (1))), .int (iI ((w 12 0) + (1))), .ref (σ 3 (0)), .int (iI (w 27 0)), .ref (σ 4 (0)), .ref (σ 10 (w 34 0)), .ref (σ 5 (0)), .ref (σ 6 (0)), .int (iI (w 37 0)), .int (iI (w 38 0)), .int (iI (w 39 0))])) := eM35 ▸ zup_s
                          have o163 : M35 a142 = _ := eM35 ▸ (zup_n (fun z9 => fr143 _ _ (Or.inl ⟨by decide, rfl⟩ : xLv w (xL w) 0 0) z9.symm)).trans o161
                          refine z_aload C 204 6 dX0_field_202 rfl rfl ?_
                          refine z_callV (As := []) (rest := []) C hκ hκl 207 (k9_number_r hT (a142) ((w 11 0)) _ _ _ _ _ _ _ _ _ _ _ o163) dX0_field_204 q738 q500 q2572 q103 q502 znX9_number (Nat.le_of_ble_eq_true rfl) (Nat.le_of_ble_eq_true rfl) (Nat.le_of_ble_eq_true rfl) (Nat.le_of_ble_eq_true rfl) (zrec_P o163) rfl rfl (Nat.le_of_ble_eq_true rfl) rfl (fun v9 Q9 h9 => ?_)
                          obtain ⟨rfl, rfl⟩ := h9
                          refine z_as (st' := [.int (iI (((w 11 0))))]) rfl rfl rfl ?_
                          exact z_iret C dX0_field_207 rfl (Nat.le_of_ble_eq_true rfl) (Nat.le_of_ble_eq_true rfl) (by unfold fiI fiW fiO; rw [if_neg (by simp_all), if_neg (by simp_all), if_neg (by omega), if_pos (by simp_all)]; exact ⟨rfl, M35, (xS2 σ (w 11 0) a142 par149 0 0), rfl, xS2_o (by omega), (by rw [← eM35, ← eM34, ← eM33]; simp only [zup_up]; exact hX9)⟩)
                        · skip
                          have c155b : ((zand (k) (4) ≠ 0)) := of_decide_eq_true c155
                          refine z_aload C 157 6 dX0_field_155 rfl rfl ?_
                          refine z_getf C hκ (v := .ref (σ 10 (y))) 160 5 zk_X9 oar149 (by decide) q672 (Or.inl rfl) rfl dX0_field_157 rfl ?_
                          refine z_iconst C 161 dX0_field_160 rfl ?_
                          refine xv_row (rest := [.ref (a142)]) C hκ hκl hX153 hs hw hT (y) (1) ⟨by decide, by decide⟩ ⟨by omega, by omega⟩ ⟨by omega, by omega⟩ 164 dX0_field_161 q715 (Nat.le_of_ble_eq_true rfl) (Nat.le_of_ble_eq_true rfl) (Nat.le_of_ble_eq_true rfl) (Nat.le_of_ble_eq_true rfl) (Nat.le_of_ble_eq_true rfl) rfl (fun a164 a164e a164M a164R => ?_)
                          have ne165 : a142 ≠ a164 := fun z9 => by have z8 := oar149; rw [z9, a164M] at z8; cases z8
                          have ne166 : par149 ≠ a164 := fun z9 => by have z8 := hpar149; rw [z9, a164M] at z8; cases z8
                          have fr167 : xFr σ w (xL w) a164 := hX153.fr a164M
                          have fr168 : M a164 = none := ge154.no a164M
                          obtain ⟨M36, eM36⟩ : ∃ z9 : zMap, zup Mr149 a164 (a164e : va_E) = z9 := ⟨_, rfl⟩
                          rw [eM36]
                          have o169 : M36 a142 = some (.inr (9, [.int (iI ((w 11 0))), .ref ((σ 10 (t))), .int (iI (n)), .int (iI (k)), .int (iI (bI (true))), .ref (σ 10 (y)), .ref (par149), .int (iI (0)), .int (iI (0)), .int (iI (0)), .null, .null])) := eM36 ▸ (zup_n ne165).trans oar149
                          have o170 : M36 par149 = some (.inl (θ.2.1 8, 3, xQ (fun _ => none))) := eM36 ▸ (zup_n ne166).trans hpar149
                          have hX171 : xM θ σ w (xL w) M36 := eM36 ▸ hX153.up fr167
                          have ge172 : zGe M M36 := eM36 ▸ ge154.up fr168
                          have o173 : M36 a164 = some (a164e) := eM36 ▸ zup_s
                          refine z_goto C 168 dX0_field_164 (by decide) ?_
                          refine z_putf (fs' := [.int (iI ((w 11 0))), .ref ((σ 10 (t))), .int (iI (n)), .int (iI (k)), .int (iI (bI (true))), .ref (σ 10 (y)), .ref (par149), .int (iI (0)), .int (iI (0)), .int (iI (0)), .null, .ref (a164)]) C hκ 171 11 zk_X9 o169 (by decide) q685 (Or.inl rfl) rfl rfl rfl (Nat.le_of_ble_eq_true rfl) rfl dX0_field_168 rfl ?_
                          obtain ⟨M37, eM37⟩ : ∃ z9 : zMap, zup M36 a142 (.inr (9, [.int (iI ((w 11 0))), .ref ((σ 10 (t))), .int (iI (n)), .int (iI (k)), .int (iI (bI (true))), .ref (σ 10 (y)), .ref (par149), .int (iI (0)), .int (iI (0)), .int (iI (0)), .null, .ref (a164)]) : va_E) = z9 := ⟨_, rfl⟩
                          rw [eM37]
                          have o174 : M37 par149 = some (.inl (θ.2.1 8, 3, xQ (fun _ => none))) := eM37 ▸ (zup_n ipar149).trans o170
                          have o175 : M37 a164 = some (a164e) := eM37 ▸ (zup_n (fun z9 => ne165 z9.symm)).trans o173
                          have hX176 : xM θ σ w (xL w) M37 := eM37 ▸ hX171.up fr143
                          have ge177 : zGe M M37 := eM37 ▸ ge172.up fr144
                          have o178 : M37 a142 = some (.inr (9, [.int (iI ((w 11 0))), .ref ((σ 10 (t))), .int (iI (n)), .int (iI (k)), .int (iI (bI (true))), .ref (σ 10 (y)), .ref (par149), .int (iI (0)), .int (iI (0)), .int (iI (0)), .null, .ref (a164)])) := eM37 ▸ zup_s
                          refine z_aload_n C 172 0 dX0_field_171 rfl rfl ?_
                          refine z_getf C hκ (v := .ref (σ 2 (0))) 175 2 zk_X0 hX176.o (by decide) q329 (Or.inl rfl) rfl dX0_field_172 rfl ?_
                          refine z_aload_n C 176 0 dX0_field_175 rfl rfl ?_
                          refine z_getf C hκ (v := .int (iI (w 11 0))) 179 3 zk_X0 hX176.o (by decide) q330 (Or.inl rfl) rfl dX0_field_176 rfl ?_
                          refine z_aload C 181 6 dX0_field_179 rfl rfl ?_
                          obtain ⟨⟨e11, ag, e12⟩, ⟨e13, e14, e15, e16, e17⟩, e18, e20, e21, e22, e26⟩ := fiD (w := w) (t := t) (n := n) (k := k) (y := y) (f := true) (v := w 12 0 + 1)
                          have hcl9 : (dW (mset w 12 0 (w 12 0 + 1)) t n k y true) 16 (w 11 0) = 1 → hasB (dW (mset w 12 0 (w 12 0 + 1)) t n k y true) (w 11 0) 4 = false → ∀ x : Int, 0 ≤ x → x < w 27 0 → w 29 x = -1 → (dW (mset w 12 0 (w 12 0 + 1)) t n k y true) 13 (w 11 0) ∉ xL w (w 28 x) := (fun _ h9 => by rw [e13]; unfold hasB at h9; rw [e15] at h9; exact cc_no hs ⟨by omega, by omega⟩ (by unfold fiN at hfN; simp_all))
                          have hrw : xHasRow (dW (mset w 12 0 (w 12 0 + 1)) t n k y true) (w 11 0) = true := (by unfold xHasRow hasB; rw [e15, e16]; simp_all [bI])
                          have hbw : xHasBody (dW (mset w 12 0 (w 12 0 + 1)) t n k y true) (w 11 0) = false := (by unfold xHasBody; rw [e16]; simp [bI])
                          have hma : M37 a142 = some (.inr (9, xMem (xS2 σ (w 11 0) a142 par149 0 a164) (dW (mset w 12 0 (w 12 0 + 1)) t n k y true) (w 11 0))) := o178.trans (by rw [xMem_l e13 e14 e15 e16 e17 e18 e20 e21 (Or.inr rfl) (Or.inl rfl) (Or.inl rfl), hrw, hbw, xo_y (show 0 ≤ y by omega)]; rfl)
                          obtain ⟨f9, hf9, hX9⟩ := newM_put (w2 := dW (mset w 12 0 (w 12 0 + 1)) t n k y true) (n := w 11 0) (a := a142) (pa := par149) (b := 0) (r := a164) hs hbd hX176 rfl (by omega) e11 ag hma ⟨_, o174, fun j hj => by rw [e18] at hj; omega⟩ (fun h => absurd (h.symm.trans hbw) (by decide)) (fun _ => e22) (fun _ => ⟨_, o175, (by rw [e17, e26]; exact a164R)⟩) fr143 fr151 (fun h => absurd (h.symm.trans hbw) (by decide)) (fun _ => fr167) hcl9
                          refine z_qast (X := w 11 0) C hκ 182 9 hf9 rfl o178 rfl (by omega) (by omega) (by decide) rfl dX0_field_181 rfl ?_
                          obtain ⟨M38, eM38⟩ : ∃ z9 : zMap, zup M37 (σ 2 (0)) (.inl (θ.2.1 9, 100, xQ (va_up f9 (w 11 0).toNat (some a142))) : va_E) = z9 := ⟨_, rfl⟩
                          rw [eM38]
                          have hM0 : M38 (σ 0 (0)) = _ := eM38 ▸ (zup_n (hX176.ne (Or.inl ⟨by decide, rfl⟩ : xLv w (xL w) 0 0) (Or.inl ⟨by decide, rfl⟩ : xLv w (xL w) 2 0) (by decide))).trans hX176.o
                          have hMa : M38 a142 = _ := eM38 ▸ (zup_n (fun z9 => fr143 _ _ (Or.inl ⟨by decide, rfl⟩ : xLv w (xL w) 2 0) z9.symm)).trans o178
                          refine z_aload_n C 183 0 dX0_field_182 rfl rfl ?_
                          refine z_dup C 184 dX0_field_183 rfl rfl ?_
                          refine z_getf C hκ (v := .int (iI (w 11 0))) 187 3 zk_X0 hM0 (by decide) q330 (Or.inl rfl) rfl dX0_field_184 rfl ?_
                          refine z_iconst C 188 dX0_field_187 rfl ?_
                          refine z_iadd C 189 dX0_field_188 rfl ?_
                          refine z_putf (fs' := [.ref (σ 1 (0)), .int (iI (w 0 0)), .ref (σ 2 (0)), .int (iI ((w 11 0) + (1))), .int (iI (w 12 0)), .ref (σ 3 (0)), .int (iI (w 27 0)), .ref (σ 4 (0)), .ref (σ 10 (w 34 0)), .ref (σ 5 (0)), .ref (σ 6 (0)), .int (iI (w 37 0)), .int (iI (w 38 0)), .int (iI (w 39 0))]) C hκ 192 3 zk_X0 hM0 (by decide) q330 (Or.inl rfl) rfl rfl rfl (Nat.le_of_ble_eq_true rfl) rfl dX0_field_189 rfl ?_
                          obtain ⟨M39, eM39⟩ : ∃ z9 : zMap, zup M38 (σ 0 (0)) (.inr (0, [.ref (σ 1 (0)), .int (iI (w 0 0)), .ref (σ 2 (0)), .int (iI ((w 11 0) + (1))), .int (iI (w 12 0)), .ref (σ 3 (0)), .int (iI (w 27 0)), .ref (σ 4 (0)), .ref (σ 10 (w 34 0)), .ref (σ 5 (0)), .ref (σ 6 (0)), .int (iI (w 37 0)), .int (iI (w 38 0)), .int (iI (w 39 0))]) : va_E) = z9 := ⟨_, rfl⟩
                          rw [eM39]
                          have o179 : M39 (σ 0 (0)) = some (.inr (0, [.ref (σ 1 (0)), .int (iI (w 0 0)), .ref (σ 2 (0)), .int (iI ((w 11 0) + (1))), .int (iI (w 12 0)), .ref (σ 3 (0)), .int (iI (w 27 0)), .ref (σ 4 (0)), .ref (σ 10 (w 34 0)), .ref (σ 5 (0)), .ref (σ 6 (0)), .int (iI (w 37 0)), .int (iI (w 38 0)), .int (iI (w 39 0))])) := eM39 ▸ zup_s
                          have o180 : M39 a142 = _ := eM39 ▸ (zup_n (fun z9 => fr143 _ _ (Or.inl ⟨by decide, rfl⟩ : xLv w (xL w) 0 0) z9.symm)).trans hMa
                          refine z_aload_n C 193 0 dX0_field_192 rfl rfl ?_
                          refine z_dup C 194 dX0_field_193 rfl rfl ?_
                          refine z_getf C hκ (v := .int (iI (w 12 0))) 197 4 zk_X0 o179 (by decide) q331 (Or.inl rfl) rfl dX0_field_194 rfl ?_
                          refine z_iconst C 198 dX0_field_197 rfl ?_
                          refine z_iadd C 199 dX0_field_198 rfl ?_
                          refine z_putf (fs' := [.ref (σ 1 (0)), .int (iI (w 0 0)), .ref (σ 2 (0)), .int (iI ((w 11 0) + (1))), .int (iI ((w 12 0) + (1))), .ref (σ 3 (0)), .int (iI (w 27 0)), .ref (σ 4 (0)), .ref (σ 10 (w 34 0)), .ref (σ 5 (0)), .ref (σ 6 (0)), .int (iI (w 37 0)), .int (iI (w 38 0)), .int (iI (w 39 0))]) C hκ 202 4 zk_X0 o179 (by decide) q331 (Or.inl rfl) rfl rfl rfl (Nat.le_of_ble_eq_true rfl) rfl dX0_field_199 rfl ?_
                          obtain ⟨M40, eM40⟩ : ∃ z9 : zMap, zup M39 (σ 0 (0)) (.inr (0, [.ref (σ 1 (0)), .int (iI (w 0 0)), .ref (σ 2 (0)), .int (iI ((w 11 0) + (1))), .int (iI ((w 12 0) + (1))), .ref (σ 3 (0)), .int (iI (w 27 0)), .ref (σ 4 (0)), .ref (σ 10 (w 34 0)), .ref (σ 5 (0)), .ref (σ 6 (0)), .int (iI (w 37 0)), .int (iI (w 38 0)), .int (iI (w 39 0))]) : va_E) = z9 := ⟨_, rfl⟩
                          rw [eM40]
                          have o181 : M40 (σ 0 (0)) = some (.inr (0, [.ref (σ 1 (0)), .int (iI (w 0 0)), .ref (σ 2 (0)), .int (iI ((w 11 0) + (1))), .int (iI ((w 12 0) + (1))), .ref (σ 3 (0)), .int (iI (w 27 0)), .ref (σ 4 (0)), .ref (σ 10 (w 34 0)), .ref (σ 5 (0)), .ref (σ 6 (0)), .int (iI (w 37 0)), .int (iI (w 38 0)), .int (iI (w 39 0))])) := eM40 ▸ zup_s
                          have o182 : M40 a142 = _ := eM40 ▸ (zup_n (fun z9 => fr143 _ _ (Or.inl ⟨by decide, rfl⟩ : xLv w (xL w) 0 0) z9.symm)).trans o180
                          refine z_aload C 204 6 dX0_field_202 rfl rfl ?_
                          refine z_callV (As := []) (rest := []) C hκ hκl 207 (k9_number_r hT (a142) ((w 11 0)) _ _ _ _ _ _ _ _ _ _ _ o182) dX0_field_204 q738 q500 q2572 q103 q502 znX9_number (Nat.le_of_ble_eq_true rfl) (Nat.le_of_ble_eq_true rfl) (Nat.le_of_ble_eq_true rfl) (Nat.le_of_ble_eq_true rfl) (zrec_P o182) rfl rfl (Nat.le_of_ble_eq_true rfl) rfl (fun v9 Q9 h9 => ?_)
                          obtain ⟨rfl, rfl⟩ := h9
                          refine z_as (st' := [.int (iI (((w 11 0))))]) rfl rfl rfl ?_
                          exact z_iret C dX0_field_207 rfl (Nat.le_of_ble_eq_true rfl) (Nat.le_of_ble_eq_true rfl) (by unfold fiI fiW fiO; rw [if_neg (by simp_all), if_neg (by simp_all), if_neg (by omega), if_pos (by simp_all)]; exact ⟨rfl, M40, (xS2 σ (w 11 0) a142 par149 0 a164), rfl, xS2_o (by omega), (by rw [← eM40, ← eM39, ← eM38]; simp only [zup_up]; exact hX9)⟩)
                      · skip
                        refine z_bipush C 118 dX0_field_116 (by decide) rfl ?_
                        exact z_iret C dX0_field_118 rfl (Nat.le_of_ble_eq_true rfl) (Nat.le_of_ble_eq_true rfl) (by unfold fiI fiW fiO; rw [if_neg (by simp_all), if_neg (by simp_all), if_pos (by omega), if_neg (by simp; omega)]; exact xOp_same hX)
                    · skip
                      refine z_bipush C 106 dX0_field_104 (by decide) rfl ?_
                      exact z_iret C dX0_field_106 rfl (Nat.le_of_ble_eq_true rfl) (Nat.le_of_ble_eq_true rfl) (by have h9 : fiN w t n k = true := (by clear C hκ hκl hS hB hB1 hB2 hB3 hB4 hB5 hB6 hC hw hX hs hT h81 h82 f2a f2b f2c f2d f2e f2f f2g f2h f2i f2j f2k f2l; unfold fiN; first | (simp_all; done) | (simp_all <;> omega)); unfold fiI fiW fiO; rw [if_neg (by simp_all), if_pos h9, if_neg (by simp [h9])]; exact xOp_same hX)
                · skip
                  rw [xo_y n96]
                  refine z_as (st' := [.ref (σ 20 (ofI w (t) (n)))]) (lv' := [(0, .ref (σ 0 (0))), (1, .int (iI (t))), (2, .int (iI (n))), (3, .int (iI (k))), (4, .int (iI (y))), (5, .ref (σ 10 (t)))]) rfl rfl rfl ?_
                  refine z_ifnonnull C 104 dX0_field_86 (by decide) ?_
                  refine z_bipush C 106 dX0_field_104 (by decide) rfl ?_
                  exact z_iret C dX0_field_106 rfl (Nat.le_of_ble_eq_true rfl) (Nat.le_of_ble_eq_true rfl) (by have h9 : fiN w t n k = true := (by clear C hκ hκl hS hB hB1 hB2 hB3 hB4 hB5 hB6 hC hw hX hs hT h81 h82 f2a f2b f2c f2d f2e f2f f2g f2h f2i f2j f2k f2l; unfold fiN; first | (simp_all; done) | (simp_all <;> omega)); unfold fiI fiW fiO; rw [if_neg (by simp_all), if_pos h9, if_neg (by simp [h9])]; exact xOp_same hX)
              · skip
                refine z_iconst C 78 dX0_field_77 rfl ?_
                exact z_iret C dX0_field_78 rfl (Nat.le_of_ble_eq_true rfl) (Nat.le_of_ble_eq_true rfl) (by have h9 : fiB w t n k y = false := (by clear C hκ hκl hS hB hB1 hB2 hB3 hB4 hB5 hB6 hC hw hX hs hT h81 h82 f2a f2b f2c f2d f2e f2f f2g f2h f2i f2j f2k f2l; cases h8 : fiB w t n k y with | false => rfl | true => exact absurd h8 (by intro h8; unfold fiB at h8; simp only [Bool.and_eq_true, Bool.or_eq_true, decide_eq_true_eq, dcB, tyB] at h8; first | omega | (simp_all [tyB, dcB]; done) | (simp_all [tyB, dcB] <;> omega))); unfold fiI fiW fiO; rw [if_pos (by simp [h9]), if_neg (by simp [h9])]; exact xOp_same hX)
          · skip
            have c6b : ¬ (0 ≤ (y) ∧ (y) < w 0 0) := of_decide_eq_false c6
            refine z_iconst C 54 dX0_field_53 rfl ?_
            exact z_iret C dX0_field_54 rfl (Nat.le_of_ble_eq_true rfl) (Nat.le_of_ble_eq_true rfl) (by have h9 : fiB w t n k y = false := (by clear C hκ hκl hS hB hB1 hB2 hB3 hB4 hB5 hB6 hC hw hX hs hT h81 h82 f2a f2b f2c f2d f2e f2f f2g f2h f2i f2j f2k f2l; cases h8 : fiB w t n k y with | false => rfl | true => exact absurd h8 (by intro h8; unfold fiB at h8; simp only [Bool.and_eq_true, Bool.or_eq_true, decide_eq_true_eq, dcB, tyB] at h8; first | omega | (simp_all [tyB, dcB]; done) | (simp_all [tyB, dcB] <;> omega))); unfold fiI fiW fiO; rw [if_pos (by simp [h9]), if_neg (by simp [h9])]; exact xOp_same hX)
