/-! ===== a new thing ===== -/
def xS3 (σ : xA) (n : Int) (a v : Nat) (ra : Int → Nat) : xA := fun k i => if k = 30 ∧ i = n then a else if (k = 31 ∨ k = 32) ∧ i = n then v else if k = 33 ∧ i / 100 = n then ra (i % 100) else σ k i
section PACKX
variable {θ : zTh} {σ : xA} {w w2 : mW} {M M' : zMap} {n : Int} {a v : Nat} {ra : Int → Nat}
theorem xS3_30 : xS3 σ n a v ra 30 n = a := by unfold xS3; rw [if_pos ⟨rfl, rfl⟩]
theorem xS3_31 : xS3 σ n a v ra 31 n = v := by unfold xS3; rw [if_neg (by omega), if_pos ⟨Or.inl rfl, rfl⟩]
theorem xS3_32 : xS3 σ n a v ra 32 n = v := by unfold xS3; rw [if_neg (by omega), if_pos ⟨Or.inr rfl, rfl⟩]
theorem xS3_33 {i : Int} (h : i / 100 = n) : xS3 σ n a v ra 33 i = ra (i % 100) := by unfold xS3; rw [if_neg (by omega), if_neg (by omega), if_pos ⟨rfl, h⟩]
theorem xS3_o {k : Nat} {i : Int} (h : ¬ ((i = n ∧ (k = 30 ∨ k = 31 ∨ k = 32)) ∨ (k = 33 ∧ i / 100 = n))) : xS3 σ n a v ra k i = σ k i := by
  unfold xS3
  rw [if_neg (fun z => h (Or.inl ⟨z.2, Or.inl z.1⟩)), if_neg (fun z => h (Or.inl ⟨z.2, Or.inr z.1⟩)), if_neg (fun z => h (Or.inr z))]
/-- the numbers of a new thing: what changes -/
def nwX (w w2 : mW) (n : Int) : Prop := ∀ (k : Nat) (i : Int), k ≠ 27 → ¬ ((k = 28 ∨ k = 29) ∧ i = n) → ¬ (k = 30 ∧ 100 * n ≤ i ∧ i < 100 * n + 100) → ¬ (k = 31 ∧ 20 * n ≤ i ∧ i < 20 * n + 20) → w2 k i = w k i
theorem nwX.k (h : nwX w w2 n) {k : Nat} (i : Int) (h1 : k < 27 ∨ 31 < k) : w2 k i = w k i := h k i (by omega) (by omega) (by omega) (by omega)
theorem nwX.i (h : nwX w w2 n) {k : Nat} {i : Int} (h1 : k = 28 ∨ k = 29) (h2 : i ≠ n) : w2 k i = w k i := h k i (by omega) (by omega) (by omega) (by omega)
theorem ft_ref {t b : Int} (h : ftB w t b = true) (h8 : 8 ≤ t) : -1 ≤ b ∧ b < w 27 0 := by
  unfold ftB at h
  rw [if_neg (by omega), if_neg (by omega), if_neg (by omega), if_neg (by omega), if_neg (by omega), if_neg (by omega), if_neg (by omega), if_neg (by omega)] at h
  have := of_decide_eq_true h; omega
theorem newX_pack (hs : xS w) (hV : mV w) (hX : xM θ σ w (xL w) M) (hn : n = w 27 0) (h27 : w2 27 0 = n + 1) (ag : nwX w w2 n) (ht : 8 ≤ w2 28 n ∧ w2 28 n < w 0 0)
    (hM0 : M' (σ 0 0) = some (.inr (0, [.ref (σ 1 0), .int (iI (w 0 0)), .ref (σ 2 0), .int (iI (w 11 0)), .int (iI (w 12 0)), .ref (σ 3 0), .int (iI (w2 27 0)), .ref (σ 4 0), .ref (σ 10 (w 34 0)), .ref (σ 5 0), .ref (σ 6 0), .int (iI (w 37 0)), .int (iI (w 38 0)), .int (iI (w 39 0))])))
    (hM3 : ∃ f, M (σ 3 0) = some (.inl (θ.2.1 10, 80, xQ f)) ∧ M' (σ 3 0) = some (.inl (θ.2.1 10, 80, xQ (va_up f n.toNat (some a)))))
    (ha : M' a = some (if w2 29 n = -1 then .inr (24, [.int (iI n), .ref (σ 10 (w2 28 n)), .int (iI (-1)), .ref v]) else .inr (27, [.int (iI n), .ref (σ 10 (w2 28 n)), .int (iI (-1)), .ref v, .int (iI (w2 29 n))])))
    (hv1 : w2 29 n = -1 → ∃ f, M' v = some (.inl (θ.2.1 14, 100, xQ f)) ∧ ∀ j : Nat, (j : Int) < w 11 0 → w 16 j = 1 → hasB w j 4 = false → w 13 j ∈ xL w (w2 28 n) → f j = some (ra j))
    (hv2 : w2 29 n ≠ -1 → ∃ e, M' v = some e ∧ xRow θ σ w (w 4 (w2 28 n)) (w2 29 n).toNat (fun j => w2 31 (20 * n + j)) e)
    (hv3 : w2 29 n ≠ -1 → 8 ≤ w 4 (w2 28 n) → ∀ j : Nat, j < (w2 29 n).toNat → w2 31 (20 * n + j) < n)
    (hr : w2 29 n = -1 → ∀ j : Int, 0 ≤ j → j < w 11 0 → w 16 j = 1 → hasB w j 4 = false → w 13 j ∈ xL w (w2 28 n) → (∃ e, M' (ra j) = some e ∧ xRow θ σ w (w 17 j) 1 (fun _ => w2 30 (100 * n + j)) e) ∧ xFr σ w (xL w) (ra j) ∧ ra j ≠ a ∧ ra j ≠ v ∧ (8 ≤ w 17 j → w2 30 (100 * n + j) < n))
    (hri : w2 29 n = -1 → ∀ i j : Int, 0 ≤ i → i < w 11 0 → w 16 i = 1 → hasB w i 4 = false → w 13 i ∈ xL w (w2 28 n) → 0 ≤ j → j < w 11 0 → w 16 j = 1 → hasB w j 4 = false → w 13 j ∈ xL w (w2 28 n) → ra i = ra j → i = j)
    (hfr : ∀ (c : Nat) (e : va_E), M c = some e → c ≠ σ 0 0 → c ≠ σ 3 0 → M' c = some e)
    (fa : xFr σ w (xL w) a) (fv : xFr σ w (xL w) v) (nav : a ≠ v) : xM θ (xS3 σ n a v ra) w2 (xL w2) M' := by
  have eL : xL w2 = xL w := xL_eq (fun i => ag.k i (by decide)) (fun i => ag.k i (by decide)) (fun i => ag.k i (by decide)) (fun i => ag.k i (by decide))
  rw [eL]
  have hB := hs.S.B
  unfold mB at hB
  have o : ∀ (k : Nat) (i : Int), k < 30 ∨ 33 < k → xS3 σ n a v ra k i = σ k i := fun k i h => xS3_o (fun z => by omega)
  have oi : ∀ (k : Nat) (i : Int), k ≠ 33 → i ≠ n → xS3 σ n a v ra k i = σ k i := fun k i h h2 => xS3_o (fun z => by omega)
  have o33 : ∀ i : Int, i / 100 ≠ n → xS3 σ n a v ra 33 i = σ 33 i := fun i h => xS3_o (fun z => by omega)
  have eb : ∀ i : Int, xHasBody w2 i = xHasBody w i ∧ xHasRow w2 i = xHasRow w i := fun i => by unfold xHasBody xHasRow hasB; rw [ag.k _ (by decide), ag.k _ (by decide)]; exact ⟨rfl, rfl⟩
  have ehB : ∀ i m : Int, hasB w2 i m = hasB w i m := fun i m => by unfold hasB; rw [ag.k _ (by decide)]
  have l0 : xLv w (xL w) 0 0 := Or.inl ⟨by decide, rfl⟩
  have l3 : xLv w (xL w) 3 0 := Or.inl ⟨by decide, rfl⟩
  have lvo : ∀ (k : Nat) (i : Int), xLv w2 (xL w) k i → ¬ ((i = n ∧ (k = 30 ∨ k = 31 ∨ k = 32)) ∨ (k = 33 ∧ i / 100 = n)) → xLv w (xL w) k i := fun k i h p => by
    unfold xLv at h ⊢
    rw [ag.k (k := 0) 0 (by decide), ag.k (k := 11) 0 (by decide), (eb i).1, (eb i).2, h27] at h
    rcases h with h | h | h | h | h | h | h | h | h | h
    · exact Or.inl h
    · exact Or.inr (Or.inl h)
    · exact Or.inr (Or.inr (Or.inl h))
    · exact Or.inr (Or.inr (Or.inr (Or.inl h)))
    · exact Or.inr (Or.inr (Or.inr (Or.inr (Or.inl h))))
    · exact Or.inr (Or.inr (Or.inr (Or.inr (Or.inr (Or.inl ⟨h.1, h.2.1, by omega⟩)))))
    · have hi : i ≠ n := fun z => p (Or.inl ⟨z, by omega⟩)
      rw [ag.i (Or.inr rfl) hi] at h
      exact Or.inr (Or.inr (Or.inr (Or.inr (Or.inr (Or.inr (Or.inl ⟨h.1, h.2.1, by omega, h.2.2.2⟩))))))
    · have hi : i ≠ n := fun z => p (Or.inl ⟨z, by omega⟩)
      rw [ag.i (Or.inr rfl) hi] at h
      exact Or.inr (Or.inr (Or.inr (Or.inr (Or.inr (Or.inr (Or.inr (Or.inl ⟨h.1, h.2.1, by omega, h.2.2.2⟩)))))))
    · obtain ⟨rfl, h1, h2, h3, h4, h5, h6, h7⟩ := h
      have hi : i / 100 ≠ n := fun z => p (Or.inr ⟨rfl, z⟩)
      rw [ag.i (Or.inr rfl) hi] at h3
      rw [ag.i (Or.inl rfl) hi, ag.k _ (by decide)] at h7
      rw [ag.k _ (by decide)] at h5
      rw [ehB] at h6
      exact Or.inr (Or.inr (Or.inr (Or.inr (Or.inr (Or.inr (Or.inr (Or.inr (Or.inl ⟨rfl, h1, by omega, h3, h4, h5, h6, h7⟩))))))))
    · exact Or.inr (Or.inr (Or.inr (Or.inr (Or.inr (Or.inr (Or.inr (Or.inr (Or.inr h))))))))
  refine hX.upd (fun k i => (k = 0 ∨ k = 3) ∨ ((i = n ∧ (k = 30 ∨ k = 31 ∨ k = 32)) ∨ (k = 33 ∧ i / 100 = n))) (fun k i h p => ?_) (fun k i h p => ?_) (fun k i k' j h p h' e => ?_)
  · have hl := lvo k i h (fun z => p (Or.inr z))
    refine ⟨hl, xS3_o (fun z => p (Or.inr z)), ?_, fun e h9 => ?_⟩
    · obtain ⟨e, h1, -⟩ := hX.2 k i hl
      rw [h1]
      exact hfr _ _ h1 (fun z => p (Or.inl (Or.inl (hX.1 _ _ _ _ hl l0 z).1))) (fun z => p (Or.inl (Or.inr (hX.1 _ _ _ _ hl l3 z).1)))
    · rcases xLv_k hl with rfl | rfl | rfl | rfl | rfl | rfl | rfl | rfl | rfl | rfl | rfl | rfl | rfl | rfl | rfl | rfl | rfl | rfl | rfl | rfl
      · exact absurd (Or.inl (Or.inl rfl)) p
      · obtain ⟨f, g1, g2⟩ := h9
        exact ⟨f, g1, fun j hj => by rw [o 10 _ (by decide)]; rw [ag.k 0 (by decide)] at hj; exact g2 j hj⟩
      · obtain ⟨f, g1, g2⟩ := h9
        exact ⟨f, g1, fun j hj => by rw [o 20 _ (by decide)]; rw [ag.k 0 (by decide)] at hj; exact g2 j hj⟩
      · exact absurd (Or.inl (Or.inr rfl)) p
      · obtain ⟨f, g1, g2⟩ := h9
        exact ⟨f, g1, fun j hj => by rw [o 40 _ (by decide)]; exact g2 j hj⟩
      · exact (show e = _ from h9).trans (by rw [ag.k 0 (by decide)])
      · exact (show e = _ from h9).trans (by rw [ag.k 0 (by decide)])
      · refine (show e = _ from h9).trans ?_
        rw [xTyG_eq (σ := σ) (w := w) (fun k hk h9 => ag.k i (by omega)) (o 11 _ (by decide)) (o 12 _ (by decide)) (o 13 _ (by decide)) (o 10 _ (by decide)) (fun _ => o 10 _ (by decide)) (fun _ => o 10 _ (by decide)) (fun _ => o 10 _ (by decide))]
        unfold xci; rw [ag.k i (by decide)]
      · obtain ⟨f, g1, g2⟩ := h9
        exact ⟨f, g1, fun j hj => by rw [o 10 _ (by decide), ag.k _ (by decide)]; rw [ag.k i (by decide)] at hj; exact g2 j hj⟩
      · obtain ⟨f, g1, g2⟩ := h9
        exact ⟨f, g1, fun j c hj => by rw [o 10 _ (by decide)]; exact g2 j c hj⟩
      · exact h9
      · refine (show e = _ from h9).trans (congrArg (fun z9 => (Sum.inr (9, z9) : va_E)) ?_)
        unfold xMem mb xo
        rw [(eb i).1, (eb i).2, ag.k i (by decide), ag.k i (by decide), ag.k i (by decide), ag.k i (by decide), ag.k i (by decide), ag.k i (by decide), ag.k i (by decide), ag.k i (by decide), o 10 _ (by decide), o 10 _ (by decide), o 21 i (by decide), o 22 i (by decide), o 23 i (by decide)]
      · obtain ⟨f, g1, g2⟩ := h9
        exact ⟨f, g1, fun j hj => by rw [o 10 _ (by decide), ag.k _ (by decide)]; rw [ag.k i (by decide)] at hj; exact g2 j hj⟩
      · refine (show e = _ from h9).trans ?_
        unfold xBody
        simp only [ag.k (k := 22) i (by decide), ag.k (k := 23) i (by decide), ag.k (k := 24) i (by decide), ag.k (k := 25) i (by decide), o 0 _ (by decide), o 20 _ (by decide)]
      · unfold xLv at hl
        have h26 := hV.2.1 i (by omega) (by omega) (by
          have : xHasRow w i = true := by rcases hl with h | h | h | h | h | h | h | h | h | h <;> first | (exfalso; omega) | exact h.2.2.2
          unfold xHasRow at this; simp at this; exact this.1)
        unfold xOk at h9 ⊢
        simp only [ag.k (k := 17) i (by decide), ag.k (k := 26) i (by decide)]
        exact xRow_eq (ag.k _ (by decide)) (fun _ _ => rfl) (fun j _ _ h8 => oi 30 _ (by decide) (by have := ft_ref h26 h8; omega)) h9
      · have hi : i ≠ n := fun z => p (Or.inr (Or.inl ⟨z, Or.inl rfl⟩))
        refine (show e = _ from h9).trans ?_
        rw [ag.i (Or.inl rfl) hi, ag.i (Or.inr rfl) hi, o 10 _ (by decide), oi 31 _ (by decide) hi, oi 32 _ (by decide) hi]
      · have hi : i ≠ n := fun z => p (Or.inr (Or.inl ⟨z, Or.inr (Or.inl rfl)⟩))
        obtain ⟨f, g1, g2⟩ := h9
        refine ⟨f, g1, fun j hj h1 h2 h3 => ?_⟩
        rw [ag.k _ (by decide)] at hj h1
        rw [ag.k (k := 13) _ (by decide), ag.i (Or.inl rfl) hi] at h3
        rw [ehB] at h2
        rw [o33 _ (by omega)]
        exact g2 j hj h1 h2 h3
      · have hi : i ≠ n := fun z => p (Or.inr (Or.inl ⟨z, Or.inr (Or.inr rfl)⟩))
        unfold xLv at hl
        have hx := (hs.S.X (x := i) (by omega) (by omega)).2.1
        unfold xOk at h9 ⊢
        rw [ag.i (Or.inl rfl) hi, ag.i (Or.inr rfl) hi, ag.k (k := 4) _ (by decide)]
        refine xRow_eq (ag.k _ (by decide)) (fun j hj => ag 31 _ (by decide) (by omega) (by omega) (by omega)) (fun j hj h0 h8 => oi 30 _ (by decide) ?_) h9
        have := ft_ref (hV.2.2.2.1 i j (by omega) (by omega) (by omega) (by omega) (by omega)) h8
        omega
      · have hi : i / 100 ≠ n := fun z => p (Or.inr (Or.inr ⟨rfl, z⟩))
        unfold xLv at hl
        unfold xOk at h9 ⊢
        simp only [ag.k (k := 17) _ (by decide)]
        rw [ag 30 i (by decide) (by omega) (by omega) (by omega)]
        refine xRow_eq (ag.k _ (by decide)) (fun _ _ => rfl) (fun j _ _ h8 => oi 30 _ (by decide) ?_) h9
        have h30 := ft_ref (hV.2.2.1 (i / 100) (i % 100) (by omega) (by omega) (by omega) (by omega) (by omega)) h8
        rw [show 100 * (i / 100) + i % 100 = i by omega] at h30
        omega
      · unfold xLv at hl
        have hL := (hs.S.L (s := i) (by omega) (by omega)).2
        refine (show e = _ from h9).trans ?_
        rw [ag.k i (by decide), ag.k i (by decide)]
        by_cases h8 : w 32 i = 8
        · have := hL h8
          rw [if_pos h8, if_pos h8, if_pos h8, xo_eq (fun h0 => oi 30 _ (by decide) (by omega))]
        · rw [if_neg h8, if_neg h8, if_neg h8]
  · rcases p with (rfl | rfl) | ⟨rfl, rfl | rfl | rfl⟩ | ⟨rfl, hi⟩
    · have hi : i = 0 := by unfold xLv at h; omega
      subst hi
      refine ⟨_, (congrArg M' (o 0 0 (by decide))).trans hM0, ?_⟩
      show _ = _
      rw [o 1 _ (by decide), o 2 _ (by decide), o 3 _ (by decide), o 4 _ (by decide), o 5 _ (by decide), o 6 _ (by decide), o 10 _ (by decide), ag.k (k := 0) 0 (by decide), ag.k (k := 11) 0 (by decide), ag.k (k := 12) 0 (by decide), ag.k (k := 34) 0 (by decide), ag.k (k := 37) 0 (by decide), ag.k (k := 38) 0 (by decide), ag.k (k := 39) 0 (by decide)]
    · have hi : i = 0 := by unfold xLv at h; omega
      subst hi
      obtain ⟨f, g1, g2⟩ := hM3
      obtain ⟨e9, g3, f9, g4, g5⟩ := hX.g (k := 3) (by decide)
      rw [g1] at g3
      rw [g4] at g3
      have g6 : f = f9 := by injection g3 with g3; injection g3 with g3; injection g3 with _ g3; injection g3 with _ g3; injection g3 with g3; injection g3 with g3; injection g3 with g3; injection g3
      refine ⟨_, (congrArg M' (o 3 0 (by decide))).trans g2, _, rfl, fun j hj => ?_⟩
      rw [h27] at hj
      unfold va_up
      by_cases hjn : (j : Int) = n
      · rw [if_pos (by omega), hjn, xS3_30]
      · rw [if_neg (by omega), oi 30 _ (by decide) hjn, g6]; exact g5 j (by omega)
    · refine ⟨_, by rw [xS3_30]; exact ha, ?_⟩
      show _ = _
      rw [xS3_31, xS3_32, o 10 _ (by decide)]
    · have h29 : w2 29 i = -1 := by unfold xLv at h; rcases h with h | h | h | h | h | h | h | h | h | h <;> first | (exfalso; omega) | exact h.2.2.2
      obtain ⟨f, h1, h2⟩ := hv1 h29
      refine ⟨_, by rw [xS3_31]; exact h1, f, rfl, fun j hj g1 g2 g3 => ?_⟩
      rw [ag.k _ (by decide)] at hj g1
      rw [ag.k (k := 13) _ (by decide)] at g3
      rw [ehB] at g2
      rw [xS3_33 (by omega), show (100 * i + (j : Int)) % 100 = j by omega]
      exact h2 j hj g1 g2 g3
    · have h29 : w2 29 i ≠ -1 := by unfold xLv at h; rcases h with h | h | h | h | h | h | h | h | h | h <;> first | (exfalso; omega) | exact h.2.2.2
      obtain ⟨e, h1, h2⟩ := hv2 h29
      have h3 := hv3 h29
      refine ⟨e, by rw [xS3_32]; exact h1, ?_⟩
      show xRow θ _ w2 (w2 4 (w2 28 i)) (w2 29 i).toNat (fun j => w2 31 (20 * i + j)) e
      rw [ag.k (k := 4) _ (by decide)]
      exact xRow_eq (ag.k _ (by decide)) (fun _ _ => rfl) (fun j hj h0 h8 => oi 30 _ (by decide) (by have := h3 h8 j hj; omega)) h2
    · unfold xLv at h
      have h' : 0 ≤ i / 100 ∧ i / 100 < w2 27 0 ∧ w2 29 (i / 100) = -1 ∧ i % 100 < w2 11 0 ∧ w2 16 (i % 100) = 1 ∧ hasB w2 (i % 100) 4 = false ∧ w2 13 (i % 100) ∈ xL w (w2 28 (i / 100)) := by
        rcases h with h | h | h | h | h | h | h | h | h | h <;> first | (exfalso; omega) | exact h.2
      obtain ⟨h1, h2, h3, h4, h5, h6, h7⟩ := h'
      rw [hi] at h3 h7
      rw [ag.k _ (by decide)] at h4 h5
      rw [ag.k (k := 13) _ (by decide)] at h7
      rw [ehB] at h6
      obtain ⟨⟨e, q1, q2⟩, -, -, -, q3⟩ := hr h3 (i % 100) (by omega) h4 h5 h6 h7
      refine ⟨e, by rw [xS3_33 hi]; exact q1, ?_⟩
      show xRow θ _ w2 (w2 17 (i % 100)) 1 (fun _ => w2 30 i) e
      rw [ag.k (k := 17) _ (by decide)]
      rw [show 100 * n + i % 100 = i by omega] at q2 q3
      exact xRow_eq (ag.k _ (by decide)) (fun _ _ => rfl) (fun j _ h0 h8 => oi 30 _ (by decide) (by have := q3 h8; omega)) q2
  · have l31 : xLv w2 (xL w) 31 n → w2 29 n = -1 := fun h => by unfold xLv at h; rcases h with h | h | h | h | h | h | h | h | h | h <;> first | (exfalso; omega) | exact h.2.2.2
    have l32 : xLv w2 (xL w) 32 n → w2 29 n ≠ -1 := fun h => by unfold xLv at h; rcases h with h | h | h | h | h | h | h | h | h | h <;> first | (exfalso; omega) | exact h.2.2.2
    have l33 : ∀ i : Int, xLv w2 (xL w) 33 i → i / 100 = n → w2 29 n = -1 ∧ i % 100 < w 11 0 ∧ w 16 (i % 100) = 1 ∧ hasB w (i % 100) 4 = false ∧ w 13 (i % 100) ∈ xL w (w2 28 n) := fun i h hi => by
      unfold xLv at h
      have h' : 0 ≤ i / 100 ∧ i / 100 < w2 27 0 ∧ w2 29 (i / 100) = -1 ∧ i % 100 < w2 11 0 ∧ w2 16 (i % 100) = 1 ∧ hasB w2 (i % 100) 4 = false ∧ w2 13 (i % 100) ∈ xL w (w2 28 (i / 100)) := by
        rcases h with h | h | h | h | h | h | h | h | h | h <;> first | (exfalso; omega) | exact h.2
      obtain ⟨-, -, h3, h4, h5, h6, h7⟩ := h'
      rw [hi] at h3 h7
      rw [ag.k _ (by decide)] at h4 h5
      rw [ag.k (k := 13) _ (by decide)] at h7
      rw [ehB] at h6
      exact ⟨h3, h4, h5, h6, h7⟩
    have key : ∀ (k9 : Nat) (i9 : Int), xLv w2 (xL w) k9 i9 → ((i9 = n ∧ (k9 = 30 ∨ k9 = 31 ∨ k9 = 32)) ∨ (k9 = 33 ∧ i9 / 100 = n)) → xFr σ w (xL w) (xS3 σ n a v ra k9 i9) := fun k9 i9 hl h9 => by
      rcases h9 with ⟨rfl, rfl | rfl | rfl⟩ | ⟨rfl, hi⟩
      · rw [xS3_30]; exact fa
      · rw [xS3_31]; exact fv
      · rw [xS3_32]; exact fv
      · obtain ⟨h3, h4, h5, h6, h7⟩ := l33 i9 hl hi
        rw [xS3_33 hi]; exact (hr h3 _ (by omega) h4 h5 h6 h7).2.1
    by_cases q : (i = n ∧ (k = 30 ∨ k = 31 ∨ k = 32)) ∨ (k = 33 ∧ i / 100 = n)
    · by_cases q' : (j = n ∧ (k' = 30 ∨ k' = 31 ∨ k' = 32)) ∨ (k' = 33 ∧ j / 100 = n)
      · rcases q with ⟨rfl, rfl | rfl | rfl⟩ | ⟨rfl, hi⟩ <;> rcases q' with ⟨hj, rfl | rfl | rfl⟩ | ⟨rfl, hj⟩
        · exact ⟨rfl, hj.symm⟩
        · subst hj; rw [xS3_30, xS3_31] at e; exact absurd e nav
        · subst hj; rw [xS3_30, xS3_32] at e; exact absurd e nav
        · obtain ⟨h3, h4, h5, h6, h7⟩ := l33 j h' hj
          rw [xS3_30, xS3_33 hj] at e; exact absurd e.symm (hr h3 _ (by omega) h4 h5 h6 h7).2.2.1
        · subst hj; rw [xS3_30, xS3_31] at e; exact absurd e.symm nav
        · exact ⟨rfl, hj.symm⟩
        · subst hj; exact absurd (l31 h) (l32 h')
        · obtain ⟨h3, h4, h5, h6, h7⟩ := l33 j h' hj
          rw [xS3_31, xS3_33 hj] at e; exact absurd e.symm (hr h3 _ (by omega) h4 h5 h6 h7).2.2.2.1
        · subst hj; rw [xS3_30, xS3_32] at e; exact absurd e.symm nav
        · subst hj; exact absurd (l31 h') (l32 h)
        · exact ⟨rfl, hj.symm⟩
        · obtain ⟨h3, h4, h5, h6, h7⟩ := l33 j h' hj
          exact absurd h3 (l32 h)
        · subst hj
          obtain ⟨h3, h4, h5, h6, h7⟩ := l33 i h hi
          rw [xS3_30, xS3_33 hi] at e; exact absurd e (hr h3 _ (by omega) h4 h5 h6 h7).2.2.1
        · subst hj
          obtain ⟨h3, h4, h5, h6, h7⟩ := l33 i h hi
          rw [xS3_31, xS3_33 hi] at e; exact absurd e (hr h3 _ (by omega) h4 h5 h6 h7).2.2.2.1
        · subst hj
          obtain ⟨h3, h4, h5, h6, h7⟩ := l33 i h hi
          exact absurd h3 (l32 h')
        · obtain ⟨h3, h4, h5, h6, h7⟩ := l33 i h hi
          obtain ⟨g3, g4, g5, g6, g7⟩ := l33 j h' hj
          rw [xS3_33 hi, xS3_33 hj] at e
          have := hri h3 _ _ (by omega) h4 h5 h6 h7 (by omega) g4 g5 g6 g7 e
          exact ⟨rfl, by omega⟩
      · rw [xS3_o q'] at e
        exact absurd e.symm (key k i h q k' j (lvo k' j h' q'))
    · have hl := lvo k i h q
      rw [xS3_o q] at e
      by_cases q' : (j = n ∧ (k' = 30 ∨ k' = 31 ∨ k' = 32)) ∨ (k' = 33 ∧ j / 100 = n)
      · exact absurd e (key k' j h' q' k i hl)
      · rw [xS3_o q'] at e
        exact hX.1 k i k' j hl (lvo k' j h' q') e
end PACKX
def obC (w : mW) (t j : Int) : Prop := w 16 j = 1 ∧ hasB w j 4 = false ∧ w 13 j ∈ xL w t
/-- an object's rows, those of the first k members -/
def obV (θ : zTh) (σ : xA) (w : mW) (M : zMap) (a vl : Nat) (t : Int) (k : Int) (M9 : zMap) (ra : Int → Nat) (f : Nat → Option Nat) : Prop :=
  zGe M M9 ∧ M9 a = some (.inr (24, [.int (iI (w 27 0)), .ref (σ 10 t), .int (iI (-1)), .ref vl])) ∧ M9 vl = some (.inl (θ.2.1 14, 100, xQ f)) ∧
  (∀ j : Int, 0 ≤ j → j < k → obC w t j → f j.toNat = some (ra j) ∧ (∃ e, M9 (ra j) = some e ∧ xRow θ σ w (w 17 j) 1 (fun _ => noneI (w 17 j)) e) ∧ M (ra j) = none ∧ ra j ≠ a ∧ ra j ≠ vl) ∧
  ∀ i j : Int, 0 ≤ i → i < k → obC w t i → 0 ≤ j → j < k → obC w t j → ra i = ra j → i = j
section OBV
variable {θ : zTh} {σ : xA} {w : mW} {M M9 : zMap} {a vl : Nat} {t : Int} {k : Nat} {ra : Int → Nat} {f : Nat → Option Nat}
theorem obV_0 (h1 : zGe M M9) (h2 : M9 a = some (.inr (24, [.int (iI (w 27 0)), .ref (σ 10 t), .int (iI (-1)), .ref vl]))) (h3 : M9 vl = some (.inl (θ.2.1 14, 100, xQ f))) : obV θ σ w M a vl t ((0 : Nat) : Int) M9 ra f :=
  ⟨h1, h2, h3, fun j a b => absurd b (by omega), fun i j a b => absurd b (by omega)⟩
theorem obV_n (h : obV θ σ w M a vl t (k : Int) M9 ra f) (hn : ¬ obC w t k) : obV θ σ w M a vl t ((k + 1 : Nat) : Int) M9 ra f := by
  obtain ⟨h1, h2, h3, h4, h5⟩ := h
  have key : ∀ j : Int, j < ((k + 1 : Nat) : Int) → obC w t j → j < k := fun j hj hc => by
    by_cases e : j = k
    · rw [e] at hc; exact absurd hc hn
    · omega
  exact ⟨h1, h2, h3, fun j a b c => h4 j a (key j b c) c, fun i j a b c d e g => h5 i j a (key i b c) c d (key j e g) g⟩
theorem obV_y (h : obV θ σ w M a vl t (k : Int) M9 ra f) (Mv : M vl = none) {ad : Nat} {e : va_E} (hM : M9 ad = none) (hr : xRow θ σ w (w 17 k) 1 (fun _ => noneI (w 17 k)) e) :
    obV θ σ w M a vl t ((k + 1 : Nat) : Int) (zup (zup M9 ad e) vl (.inl (θ.2.1 14, 100, xQ (va_up f k (some ad))))) (fun i => if i = k then ad else ra i) (va_up f k (some ad)) := by
  obtain ⟨h1, h2, h3, h4, h5⟩ := h
  have nav : a ≠ vl := fun z => by rw [z, h3] at h2; cases h2
  have n1 : ad ≠ vl := fun z => by rw [z, h3] at hM; cases hM
  have n2 : ad ≠ a := fun z => by rw [z, h2] at hM; cases hM
  have up : ∀ {b : Nat} {e9 : va_E}, M9 b = some e9 → b ≠ vl → (zup (zup M9 ad e) vl (.inl (θ.2.1 14, 100, xQ (va_up f k (some ad))))) b = some e9 := fun {b e9} g hb => (zup_n hb).trans ((zup_n (fun z => by rw [z, hM] at g; cases g)).trans g)
  refine ⟨fun b e9 g => up (h1 b e9 g) (fun z => by rw [z, Mv] at g; cases g), up h2 nav, zup_s, fun j j0 j1 hc => ?_, fun i j i0 i1 hi j0 j1 hj hij => ?_⟩
  · by_cases ej : j = k
    · subst ej
      dsimp only
      rw [if_pos rfl]
      refine ⟨by unfold va_up; rw [if_pos (by omega)], ⟨e, (zup_n n1).trans zup_s, hr⟩, ?_, n2, n1⟩
      cases g : M ad with
      | none => rfl
      | some e9 => have := h1 ad e9 g; rw [hM] at this; cases this
    · dsimp only
      rw [if_neg ej]
      obtain ⟨g1, ⟨e9, g2, g3⟩, g4, g5, g6⟩ := h4 j j0 (by omega) hc
      refine ⟨?_, ⟨e9, up g2 g6, g3⟩, g4, g5, g6⟩
      unfold va_up; rw [if_neg (by omega)]; exact g1
  · have no : ∀ j : Int, 0 ≤ j → j < ((k + 1 : Nat) : Int) → obC w t j → j ≠ k → ra j ≠ ad := fun j j0 j1 hj hne z => by
      obtain ⟨-, ⟨e9, g2, -⟩, -⟩ := h4 j j0 (by omega) hj
      rw [z, hM] at g2; cases g2
    dsimp only at hij
    by_cases ei : i = k
    · by_cases ej : j = k
      · rw [ei, ej]
      · rw [if_pos ei, if_neg ej] at hij; exact absurd hij.symm (no j j0 j1 hj ej)
    · by_cases ej : j = k
      · rw [if_neg ei, if_pos ej] at hij; exact absurd hij (no i i0 i1 hi ei)
      · rw [if_neg ei, if_neg ej] at hij
        exact h5 i j i0 (by omega) hi j0 (by omega) hj hij
theorem vlW_30 {w : mW} {x : Int} {n : Nat} {i : Int} : vlW w x n 30 i = if 100 * x ≤ i ∧ i < 100 * x + n then (if i - 100 * x < w 11 0 then noneI (w 17 (i - 100 * x)) else 0) else w 30 i := by
  induction n with
  | zero => rw [if_neg (by omega)]; rfl
  | succ n ih =>
    simp only [vlW]
    by_cases e : i = 100 * x + n
    · subst e
      rw [mset_s, if_pos (show 100 * x ≤ 100 * x + (n : Int) ∧ 100 * x + (n : Int) < 100 * x + ((n + 1 : Nat) : Int) by omega), show 100 * x + (n : Int) - 100 * x = n by omega]
    · rw [mset_i e, ih]
      by_cases c : 100 * x ≤ i ∧ i < 100 * x + n
      · rw [if_pos c, if_pos (show 100 * x ≤ i ∧ i < 100 * x + ((n + 1 : Nat) : Int) by omega)]
      · rw [if_neg c, if_neg (by omega)]
theorem ilW_31 {w : mW} {x v : Int} {n : Nat} {i : Int} : ilW w x v n 31 i = if 20 * x ≤ i ∧ i < 20 * x + n then v else w 31 i := by
  induction n with
  | zero => rw [if_neg (by omega)]; rfl
  | succ n ih =>
    simp only [ilW]
    by_cases e : i = 20 * x + n
    · subst e; rw [mset_s, if_pos (show 20 * x ≤ 20 * x + (n : Int) ∧ 20 * x + (n : Int) < 20 * x + ((n + 1 : Nat) : Int) by omega)]
    · rw [mset_i e, ih]
      by_cases c : 20 * x ≤ i ∧ i < 20 * x + n
      · rw [if_pos c, if_pos (by omega)]
      · rw [if_neg c, if_neg (by omega)]
theorem nth_k {w : mW} {t n : Int} {k : Nat} {i : Int} (h1 : k ≠ 30) (h2 : k ≠ 31) : nthW w t n k i = nt0 w t n k i := by unfold nthW; rw [ilW_k h2, vlW_k h1]
theorem nth_D {w : mW} {t n : Int} : nthW w t n 27 0 = w 27 0 + 1 ∧ nwX w (nthW w t n) (w 27 0) ∧ nthW w t n 28 (w 27 0) = t ∧ nthW w t n 29 (w 27 0) = n ∧ (∀ j : Int, 0 ≤ j → j < 100 → j < w 11 0 → nthW w t n 30 (100 * w 27 0 + j) = noneI (w 17 j)) ∧ ∀ j : Int, 0 ≤ j → j < 20 → nthW w t n 31 (20 * w 27 0 + j) = ntvI w t n := by
  refine ⟨by rw [nth_k (by decide) (by decide)]; unfold nt0; simp [mset], fun k i h1 h2 h3 h4 => ?_, by rw [nth_k (by decide) (by decide)]; unfold nt0; simp [mset], by rw [nth_k (by decide) (by decide)]; unfold nt0; simp [mset], fun j j0 j1 j2 => ?_, fun j j0 j1 => ?_⟩
  · have hb : ∀ k' i', k' ≠ 27 → ¬ ((k' = 28 ∨ k' = 29) ∧ i' = w 27 0) → nt0 w t n k' i' = w k' i' := fun k' i' a b => by
      unfold nt0
      by_cases c : k' = 29
      · subst c; rw [mset_i (fun z => b ⟨Or.inr rfl, z⟩), mset_k (by decide), mset_k (by decide)]
      · by_cases c2 : k' = 28
        · subst c2; rw [mset_k (by decide), mset_i (fun z => b ⟨Or.inl rfl, z⟩), mset_k (by decide)]
        · rw [mset_k c, mset_k c2, mset_k a]
    by_cases c : k = 30
    · subst c
      unfold nthW
      rw [ilW_k (by decide), vlW_30, if_neg (by omega)]
      exact hb 30 i (by decide) (by omega)
    · by_cases c2 : k = 31
      · subst c2
        unfold nthW
        rw [ilW_31, if_neg (by omega), vlW_k (by decide)]
        exact hb 31 i (by decide) (by omega)
      · rw [nth_k c c2]; exact hb k i h1 h2
  · unfold nthW
    rw [ilW_k (by decide), vlW_30, if_pos (by omega), show 100 * w 27 0 + j - 100 * w 27 0 = j by omega]
    have e1 : nt0 w t n 11 0 = w 11 0 := by unfold nt0; simp [mset]
    have e2 : nt0 w t n 17 j = w 17 j := by unfold nt0; simp [mset]
    rw [e1, e2, if_pos j2]
  · unfold nthW; rw [ilW_31, if_pos (by omega)]
theorem noneI_lt {t b : Int} (h : 8 ≤ t) (hb : 0 ≤ b) : noneI t < b := by unfold noneI; rw [if_pos h]; omega
/-- an object that is made -/
theorem newX_one (hs : xS w) (hV : mV w) (hX : xM θ σ w (xL w) M) (ht : 8 ≤ t ∧ t < w 0 0) (hI : obV θ σ w M a vl t (w 11 0) M9 ra f) (Ma : M a = none) (Mv : M vl = none) {f3 : Nat → Option Nat} (g3 : M9 (σ 3 0) = some (.inl (θ.2.1 10, 80, xQ f3))) :
    xM θ (xS3 σ (w 27 0) a vl ra) (nthW w t (-1)) (xL (nthW w t (-1))) (zup (zup M9 (σ 3 0) (.inl (θ.2.1 10, 80, xQ (va_up f3 (w 27 0).toNat (some a))))) (σ 0 0) (.inr (0, [.ref (σ 1 0), .int (iI (w 0 0)), .ref (σ 2 0), .int (iI (w 11 0)), .int (iI (w 12 0)), .ref (σ 3 0), .int (iI (w 27 0 + 1)), .ref (σ 4 0), .ref (σ 10 (w 34 0)), .ref (σ 5 0), .ref (σ 6 0), .int (iI (w 37 0)), .int (iI (w 38 0)), .int (iI (w 39 0))]))) := by
  obtain ⟨d1, d2, d3, d4, d5, d6⟩ := nth_D (w := w) (t := t) (n := -1)
  obtain ⟨h1, h2, h3, h4, h5⟩ := hI
  have hB := hs.S.B
  unfold mB at hB
  have l0 : xLv w (xL w) 0 0 := Or.inl ⟨by decide, rfl⟩
  have l3 : xLv w (xL w) 3 0 := Or.inl ⟨by decide, rfl⟩
  have fa := hX.fr Ma
  have fv := hX.fr Mv
  have nav : a ≠ vl := fun z => by rw [z, h3] at h2; cases h2
  have up : ∀ {c : Nat} {e : va_E} {E0 E3 : va_E}, M9 c = some e → xFr σ w (xL w) c → (zup (zup M9 (σ 3 0) E3) (σ 0 0) E0) c = some e := fun h hf => (zup_n (fun z => hf _ _ l0 z.symm)).trans ((zup_n (fun z => hf _ _ l3 z.symm)).trans h)
  have gM : M (σ 3 0) = some (.inl (θ.2.1 10, 80, xQ f3)) := by
    obtain ⟨e9, q1, f9, q2, -⟩ := hX.g (k := 3) (by decide)
    have := h1 _ _ q1
    rw [q1]; rw [g3] at this; exact this.symm
  refine newX_pack hs hV hX rfl d1 d2 (by rw [d3]; exact ht) (by rw [d1]; exact zup_s) ⟨f3, gM, (zup_n (hX.ne l3 l0 (by decide))).trans zup_s⟩ (by rw [if_pos d4, d3]; exact up h2 fa) (fun _ => ⟨f, up h3 fv, fun j q1 q2 q3 q4 => ?_⟩) (fun h => absurd d4 h) (fun h => absurd d4 h) (fun _ j j0 j1 q2 q3 q4 => ?_) (fun _ i j i0 i1 q2 q3 q4 j0 j1 r2 r3 r4 e => ?_) (fun c e h c0 c3 => (zup_n c0).trans ((zup_n c3).trans (h1 c e h))) fa fv nav
  · rw [d3] at q4
    exact (h4 j (by omega) q1 ⟨q2, q3, q4⟩).1
  · rw [d3] at q4
    obtain ⟨-, ⟨e, r1, r2⟩, r3, r4, r5⟩ := h4 j j0 j1 ⟨q2, q3, q4⟩
    refine ⟨⟨e, up r1 (hX.fr r3), ?_⟩, hX.fr r3, r4, r5, fun h8 => ?_⟩
    · rw [d5 j j0 (by omega) j1]; exact r2
    · rw [d5 j j0 (by omega) j1]; exact noneI_lt h8 (by omega)
  · rw [d3] at q4 r4
    exact h5 i j i0 i1 ⟨q2, q3, q4⟩ j0 j1 ⟨r2, r3, r4⟩ e
/-- a row that is made -/
theorem newX_many {n : Int} (hs : xS w) (hV : mV w) (hX : xM θ σ w (xL w) M) (ht : 8 ≤ t ∧ t < w 0 0) (hn : 0 ≤ n ∧ n ≤ 20) (ge : zGe M M9) (h2 : M9 a = some (.inr (27, [.int (iI (w 27 0)), .ref (σ 10 t), .int (iI (-1)), .ref vl, .int (iI n)]))) {e : va_E} (h3 : M9 vl = some e) (hr : xRow θ σ w (w 4 t) n.toNat (fun _ => noneI (w 4 t)) e) (Ma : M a = none) (Mv : M vl = none) {f3 : Nat → Option Nat} (g3 : M9 (σ 3 0) = some (.inl (θ.2.1 10, 80, xQ f3))) :
    xM θ (xS3 σ (w 27 0) a vl (fun _ => 0)) (nthW w t n) (xL (nthW w t n)) (zup (zup M9 (σ 3 0) (.inl (θ.2.1 10, 80, xQ (va_up f3 (w 27 0).toNat (some a))))) (σ 0 0) (.inr (0, [.ref (σ 1 0), .int (iI (w 0 0)), .ref (σ 2 0), .int (iI (w 11 0)), .int (iI (w 12 0)), .ref (σ 3 0), .int (iI (w 27 0 + 1)), .ref (σ 4 0), .ref (σ 10 (w 34 0)), .ref (σ 5 0), .ref (σ 6 0), .int (iI (w 37 0)), .int (iI (w 38 0)), .int (iI (w 39 0))]))) := by
  obtain ⟨d1, d2, d3, d4, d5, d6⟩ := nth_D (w := w) (t := t) (n := n)
  have hB := hs.S.B
  unfold mB at hB
  have l0 : xLv w (xL w) 0 0 := Or.inl ⟨by decide, rfl⟩
  have l3 : xLv w (xL w) 3 0 := Or.inl ⟨by decide, rfl⟩
  have fa := hX.fr Ma
  have fv := hX.fr Mv
  have nav : a ≠ vl := fun z => by
    rw [z, h3] at h2
    cases h2
    rcases hr with ⟨_, _, f, g, _⟩ | ⟨_, f, g, _⟩ | ⟨_, f, g, _⟩ | ⟨_, f, g, _⟩ | ⟨_, f, g, _⟩ <;> cases g
  have up : ∀ {c : Nat} {e : va_E} {E0 E3 : va_E}, M9 c = some e → xFr σ w (xL w) c → (zup (zup M9 (σ 3 0) E3) (σ 0 0) E0) c = some e := fun h hf => (zup_n (fun z => hf _ _ l0 z.symm)).trans ((zup_n (fun z => hf _ _ l3 z.symm)).trans h)
  have gM : M (σ 3 0) = some (.inl (θ.2.1 10, 80, xQ f3)) := by
    obtain ⟨e9, q1, f9, q2, -⟩ := hX.g (k := 3) (by decide)
    have := ge _ _ q1
    rw [q1]; rw [g3] at this; exact this.symm
  have nn : nthW w t n 29 (w 27 0) ≠ -1 := by rw [d4]; omega
  have d7 : ∀ j : Nat, j < n.toNat → nthW w t n 31 (20 * w 27 0 + j) = noneI (w 4 t) := fun j hj => by rw [d6 j (by omega) (by omega)]; unfold ntvI; rw [if_neg (by omega)]
  refine newX_pack hs hV hX rfl d1 d2 (by rw [d3]; exact ht) (by rw [d1]; exact zup_s) ⟨f3, gM, (zup_n (hX.ne l3 l0 (by decide))).trans zup_s⟩ (by rw [if_neg nn, d3, d4]; exact up h2 fa) (fun h => absurd h nn) (fun _ => ⟨e, up h3 fv, ?_⟩) (fun _ h8 j hj => ?_) (fun h => absurd h nn) (fun h => absurd h nn) (fun c e h c0 c3 => (zup_n c0).trans ((zup_n c3).trans (ge c e h))) fa fv nav
  · rw [d3, d4]
    exact xRow_eq rfl (fun j hj => d7 j hj) (fun j hj h0 h8 => rfl) hr
  · rw [d4] at hj
    rw [d3] at h8
    rw [d7 j hj]; exact noneI_lt h8 (by omega)
/-- what a class is, of those above it -/
theorem gi_cl (hs : xS w) {b : Int} (ht : 8 ≤ t ∧ t < w 0 0) (h1 : w 1 t = 1 ∨ w 1 t = 2) (hb : 8 ≤ b ∧ b < w 0 0) : giB w t b = decide (b ∈ xL w t) := by
  rw [gi_88 ht.1 hb.1, (hs.1 t (by omega) ht.2).2 b (by omega) hb.2, xI_law hs ht.1 ht.2, xL_8 ht.1]
  have : rowS w (isaL w) t b = false := by unfold rowS; rw [decide_eq_false (show ¬ w 1 t = 4 by omega)]; rfl
  rw [this, Bool.or_false]
end OBV

set_option maxRecDepth 100000 in
theorem k23_init_24 {l : Launch} {θ : zTh} {M N : zMap} (hT : zTb θ) (a : Nat) (x : Int) (ty : Nat) (r_x : inR x) (hM : M a = some (.inr (24, [.int (iI (0)), .null, .int (iI (0)), .null]))) : ZM θ l yX23_init cX23_init 3 none ⟨1, 0, 0, 40⟩ [.ref (a), .int (iI (x)), .ref (ty)] (zP θ M N) (zFn none (zP θ (zup M a (.inr (24, [.int (iI (x)), .ref (ty), .int (iI (-1)), .null]))) N)) := by
  refine z_start (own := RX23) (nm := "<init>") pnX23 rfl rfl (Nat.le_of_ble_eq_true rfl) ?_
  intro κ hκ hκl C
  change Z κ (zP θ M N) 0 0 0 [(0, .ref (a)), (1, .int (iI (x))), (2, .ref (ty))] []
  refine z_aload_n C 1 0 dX23_init_0 rfl rfl ?_
  refine z_objInit C 4 dX23_init_1 q1265 q145 q146 (Nat.le_of_ble_eq_true rfl) (Nat.le_of_ble_eq_true rfl) rfl ?_
  refine z_aload_n C 5 0 dX23_init_4 rfl rfl ?_
  refine z_iconst C 6 dX23_init_5 rfl ?_
  refine z_putF (fs' := [.int (iI (0)), .null, .int (iI (-1)), .null]) C hκ 9 2 zk_X24 hM (by decide) q1277 (Or.inl rfl) rfl rfl rfl rfl (Nat.le_of_ble_eq_true rfl) rfl dX23_init_6 rfl ?_
  obtain ⟨M1, eM1⟩ : ∃ z9 : zMap, zup M a (.inr (24, [.int (iI (0)), .null, .int (iI (-1)), .null]) : va_E) = z9 := ⟨_, rfl⟩
  rw [eM1]
  have o1 : M1 a = some (.inr (24, [.int (iI (0)), .null, .int (iI (-1)), .null])) := eM1 ▸ zup_s
  refine z_aload_n C 10 0 dX23_init_9 rfl rfl ?_
  refine z_iload_n C 11 1 dX23_init_10 rfl rfl ?_
  refine z_putF (fs' := [.int (iI (x)), .null, .int (iI (-1)), .null]) C hκ 14 0 zk_X24 o1 (by decide) q1271 (Or.inl rfl) rfl rfl rfl rfl (Nat.le_of_ble_eq_true rfl) rfl dX23_init_11 rfl ?_
  obtain ⟨M2, eM2⟩ : ∃ z9 : zMap, zup M1 a (.inr (24, [.int (iI (x)), .null, .int (iI (-1)), .null]) : va_E) = z9 := ⟨_, rfl⟩
  rw [eM2]
  have o2 : M2 a = some (.inr (24, [.int (iI (x)), .null, .int (iI (-1)), .null])) := eM2 ▸ zup_s
  refine z_aload_n C 15 0 dX23_init_14 rfl rfl ?_
  refine z_aload_n C 16 2 dX23_init_15 rfl rfl ?_
  refine z_putF (fs' := [.int (iI (x)), .ref (ty), .int (iI (-1)), .null]) C hκ 19 1 zk_X24 o2 (by decide) q1272 (Or.inl rfl) rfl rfl rfl rfl (Nat.le_of_ble_eq_true rfl) rfl dX23_init_16 rfl ?_
  obtain ⟨M3, eM3⟩ : ∃ z9 : zMap, zup M2 a (.inr (24, [.int (iI (x)), .ref (ty), .int (iI (-1)), .null]) : va_E) = z9 := ⟨_, rfl⟩
  rw [eM3]
  have o3 : M3 a = some (.inr (24, [.int (iI (x)), .ref (ty), .int (iI (-1)), .null])) := eM3 ▸ zup_s
  exact z_vret C dX23_init_19 (Nat.le_of_ble_eq_true rfl) (Nat.le_of_ble_eq_true rfl) ⟨rfl, (congrArg (fun M9 => zP θ M9 N) (by rw [← eM3, ← eM2, ← eM1] <;> simp only [zup_up]))⟩
set_option maxRecDepth 100000 in
theorem k23_init_27 {l : Launch} {θ : zTh} {M N : zMap} (hT : zTb θ) (a : Nat) (x : Int) (ty : Nat) (r_x : inR x) (hM : M a = some (.inr (27, [.int (iI (0)), .null, .int (iI (0)), .null, .int (iI (0))]))) : ZM θ l yX23_init cX23_init 3 none ⟨1, 0, 0, 40⟩ [.ref (a), .int (iI (x)), .ref (ty)] (zP θ M N) (zFn none (zP θ (zup M a (.inr (27, [.int (iI (x)), .ref (ty), .int (iI (-1)), .null, .int (iI (0))]))) N)) := by
  refine z_start (own := RX23) (nm := "<init>") pnX23 rfl rfl (Nat.le_of_ble_eq_true rfl) ?_
  intro κ hκ hκl C
  change Z κ (zP θ M N) 0 0 0 [(0, .ref (a)), (1, .int (iI (x))), (2, .ref (ty))] []
  refine z_aload_n C 1 0 dX23_init_0 rfl rfl ?_
  refine z_objInit C 4 dX23_init_1 q1265 q145 q146 (Nat.le_of_ble_eq_true rfl) (Nat.le_of_ble_eq_true rfl) rfl ?_
  refine z_aload_n C 5 0 dX23_init_4 rfl rfl ?_
  refine z_iconst C 6 dX23_init_5 rfl ?_
  refine z_putF (fs' := [.int (iI (0)), .null, .int (iI (-1)), .null, .int (iI (0))]) C hκ 9 2 zk_X27 hM (by decide) q1277 (Or.inl rfl) rfl rfl rfl rfl (Nat.le_of_ble_eq_true rfl) rfl dX23_init_6 rfl ?_
  obtain ⟨M1, eM1⟩ : ∃ z9 : zMap, zup M a (.inr (27, [.int (iI (0)), .null, .int (iI (-1)), .null, .int (iI (0))]) : va_E) = z9 := ⟨_, rfl⟩
  rw [eM1]
  have o1 : M1 a = some (.inr (27, [.int (iI (0)), .null, .int (iI (-1)), .null, .int (iI (0))])) := eM1 ▸ zup_s
  refine z_aload_n C 10 0 dX23_init_9 rfl rfl ?_
  refine z_iload_n C 11 1 dX23_init_10 rfl rfl ?_
  refine z_putF (fs' := [.int (iI (x)), .null, .int (iI (-1)), .null, .int (iI (0))]) C hκ 14 0 zk_X27 o1 (by decide) q1271 (Or.inl rfl) rfl rfl rfl rfl (Nat.le_of_ble_eq_true rfl) rfl dX23_init_11 rfl ?_
  obtain ⟨M2, eM2⟩ : ∃ z9 : zMap, zup M1 a (.inr (27, [.int (iI (x)), .null, .int (iI (-1)), .null, .int (iI (0))]) : va_E) = z9 := ⟨_, rfl⟩
  rw [eM2]
  have o2 : M2 a = some (.inr (27, [.int (iI (x)), .null, .int (iI (-1)), .null, .int (iI (0))])) := eM2 ▸ zup_s
  refine z_aload_n C 15 0 dX23_init_14 rfl rfl ?_
  refine z_aload_n C 16 2 dX23_init_15 rfl rfl ?_
  refine z_putF (fs' := [.int (iI (x)), .ref (ty), .int (iI (-1)), .null, .int (iI (0))]) C hκ 19 1 zk_X27 o2 (by decide) q1272 (Or.inl rfl) rfl rfl rfl rfl (Nat.le_of_ble_eq_true rfl) rfl dX23_init_16 rfl ?_
  obtain ⟨M3, eM3⟩ : ∃ z9 : zMap, zup M2 a (.inr (27, [.int (iI (x)), .ref (ty), .int (iI (-1)), .null, .int (iI (0))]) : va_E) = z9 := ⟨_, rfl⟩
  rw [eM3]
  have o3 : M3 a = some (.inr (27, [.int (iI (x)), .ref (ty), .int (iI (-1)), .null, .int (iI (0))])) := eM3 ▸ zup_s
  exact z_vret C dX23_init_19 (Nat.le_of_ble_eq_true rfl) (Nat.le_of_ble_eq_true rfl) ⟨rfl, (congrArg (fun M9 => zP θ M9 N) (by rw [← eM3, ← eM2, ← eM1] <;> simp only [zup_up]))⟩
set_option maxRecDepth 100000 in
theorem k24_init_24 {l : Launch} {θ : zTh} {M N : zMap} (hT : zTb θ) (a : Nat) (x : Int) (ty : Nat) (r_x : inR x) (hM : M a = some (.inr (24, [.int (iI (0)), .null, .int (iI (0)), .null]))) : ZM θ l yX24_init cX24_init 3 none ⟨2, 1, 100, 62⟩ [.ref (a), .int (iI (x)), .ref (ty)] (zP θ M N) (fun v9 Q9 => v9 = none ∧ ∃ M' : zMap, ∃ vl : Nat, Q9 = zP θ M' N ∧ zFx a M M' ∧ M' a = some (.inr (24, [.int (iI (x)), .ref (ty), .int (iI (-1)), .ref (vl)])) ∧ M' vl = some (.inl (θ.2.1 14, 100, xQ (fun _ => none))) ∧ M vl = none ∧ vl ≠ a) := by
  refine z_start (own := RX24) (nm := "<init>") pnX24 rfl rfl (Nat.le_of_ble_eq_true rfl) ?_
  intro κ hκ hκl C
  change Z κ (zP θ M N) 0 0 0 [(0, .ref (a)), (1, .int (iI (x))), (2, .ref (ty))] []
  have fx0 : zFx a M M := zFx.rf
  refine z_aload_n C 1 0 dX24_init_0 rfl rfl ?_
  refine z_iload_n C 2 1 dX24_init_1 rfl rfl ?_
  refine z_aload_n C 3 2 dX24_init_2 rfl rfl ?_
  refine z_callI (As := [.int (iI (x)), .ref (ty)]) (rest := []) C hκ hκl 6 (k23_init_24 hT (a) (x) (ty) r_x hM) dX24_init_3 q1262 q1263 q118 q1264 znX23_init rfl (Nat.le_of_ble_eq_true rfl) (Nat.le_of_ble_eq_true rfl) (Nat.le_of_ble_eq_true rfl) (Nat.le_of_ble_eq_true rfl) rfl (Nat.le_of_ble_eq_true rfl) rfl (fun v9 Q9 h9 => ?_)
  obtain ⟨rfl, rfl⟩ := h9
  obtain ⟨M1, eM1⟩ : ∃ z9 : zMap, zup M a (.inr (24, [.int (iI (x)), .ref (ty), .int (iI (-1)), .null]) : va_E) = z9 := ⟨_, rfl⟩
  rw [eM1]
  have fx1 : zFx a M M1 := eM1 ▸ fx0.up (Or.inr rfl)
  have o2 : M1 a = some (.inr (24, [.int (iI (x)), .ref (ty), .int (iI (-1)), .null])) := eM1 ▸ zup_s
  refine z_as (st' := []) rfl rfl rfl ?_
  refine z_aload_n C 7 0 dX24_init_6 rfl rfl ?_
  refine z_bipush C 9 dX24_init_7 (by decide) rfl ?_
  refine z_anew C hκ hT 12 100 14 rfl (by decide) (by decide) q1266 q1267 (Nat.le_of_ble_eq_true rfl) (Nat.le_of_ble_eq_true rfl) dX24_init_9 rfl (fun a3 a3M a3N => ?_)
  refine z_widen (n' := 1) (k' := 100) (Nat.le_refl _) (Nat.le_refl _) ?_
  have ne4 : a ≠ a3 := fun z9 => by have z8 := o2; rw [z9, a3M] at z8; cases z8
  have no5 : M a3 = none := fx1.no a3M (fun z9 => ne4 z9.symm)
  obtain ⟨M2, eM2⟩ : ∃ z9 : zMap, zup M1 a3 (.inl (θ.2.1 14, 100, xQ (fun _ => none)) : va_E) = z9 := ⟨_, rfl⟩
  rw [eM2]
  have o6 : M2 a = some (.inr (24, [.int (iI (x)), .ref (ty), .int (iI (-1)), .null])) := eM2 ▸ (zup_n ne4).trans o2
  have fx7 : zFx a M M2 := eM2 ▸ fx1.up (Or.inl no5)
  have o8 : M2 a3 = some (.inl (θ.2.1 14, 100, xQ (fun _ => none))) := eM2 ▸ zup_s
  refine z_putF (fs' := [.int (iI (x)), .ref (ty), .int (iI (-1)), .ref (a3)]) C hκ 15 3 zk_X24 o6 (by decide) q1268 (Or.inl rfl) rfl rfl rfl rfl (Nat.le_of_ble_eq_true rfl) rfl dX24_init_12 rfl ?_
  obtain ⟨M3, eM3⟩ : ∃ z9 : zMap, zup M2 a (.inr (24, [.int (iI (x)), .ref (ty), .int (iI (-1)), .ref (a3)]) : va_E) = z9 := ⟨_, rfl⟩
  rw [eM3]
  have o9 : M3 a3 = some (.inl (θ.2.1 14, 100, xQ (fun _ => none))) := eM3 ▸ (zup_n (fun z9 => ne4 z9.symm)).trans o8
  have fx10 : zFx a M M3 := eM3 ▸ fx7.up (Or.inr rfl)
  have o11 : M3 a = some (.inr (24, [.int (iI (x)), .ref (ty), .int (iI (-1)), .ref (a3)])) := eM3 ▸ zup_s
  exact z_vret C dX24_init_15 (Nat.le_of_ble_eq_true rfl) (Nat.le_of_ble_eq_true rfl) ⟨rfl, M3, a3, rfl, fx10, o11, o9, no5, (fun z9 => ne4 z9.symm)⟩
section XV
variable {κ : zK} {own nm : String} {cc : ByteArray} {nL : Nat} {ret : Option FieldType} {rm : Room} {P : Option Value → (Heap → Prop) → Prop} {n k pc : Nat} {lv : List (Nat × Value)} {st rest : List Value}
variable {θ : zTh} {l : Launch} {σ : xA} {w : mW} {Lf : Int → List Int} {M N : zMap} {index : Nat}
theorem x_astO (C : ZC κ own nm cc nL ret rm P) (hκ : κ.1 = θ) (hT : zTb θ) {a b len l9 : Nat} {f f' : Nat → Option Nat} {t X : Int} {v9 : Nat → Int} {e : va_E} (q : Nat) (hM : M a = some (.inl (θ.2.1 14, len, xQ f))) (hb : M b = some e) (hr : xRow θ σ w t l9 v9 e) (h0 : 0 ≤ X) (h1 : X < (len : Int)) (h2 : len ≤ 2147483647) (hf : va_up f X.toNat (some b) = f') (d : decode cc pc = .ok (.aastore, 1)) (hq : pc + 1 = q) (kk : Z κ (zP θ (zup M a (.inl (θ.2.1 14, len, xQ f'))) N) n k q lv rest) : Z κ (zP θ M N) n k pc lv (.ref b :: .int (iI X) :: .ref a :: rest) := by
  rcases hr with ⟨r1, r2, g, rfl, -⟩ | ⟨r1, g, rfl, -⟩ | ⟨r1, g, rfl, -⟩ | ⟨r1, g, rfl, -⟩ | ⟨r1, g, rfl, -⟩
  · rcases (show t = 0 ∨ t = 1 ∨ t = 2 ∨ t = 3 ∨ t = 4 by omega) with rfl | rfl | rfl | rfl | rfl
    · exact z_qastA C hκ hT q 14 0 hM rfl hb rfl rfl q2638 h0 h1 h2 hf d hq kk
    · exact z_qastA C hκ hT q 14 1 hM rfl hb rfl rfl q2642 h0 h1 h2 hf d hq kk
    · exact z_qastA C hκ hT q 14 2 hM rfl hb rfl rfl q2639 h0 h1 h2 hf d hq kk
    · exact z_qastA C hκ hT q 14 3 hM rfl hb rfl rfl q2643 h0 h1 h2 hf d hq kk
    · exact z_qastA C hκ hT q 14 4 hM rfl hb rfl rfl q2644 h0 h1 h2 hf d hq kk
  · exact z_qastA C hκ hT q 14 5 hM rfl hb rfl rfl q2645 h0 h1 h2 hf d hq kk
  · exact z_qastA C hκ hT q 14 6 hM rfl hb rfl rfl q2646 h0 h1 h2 hf d hq kk
  · exact z_qastA C hκ hT q 14 7 hM rfl hb rfl rfl q2647 h0 h1 h2 hf d hq kk
  · unfold xcA at hb
    split at hb
    · exact z_qastA C hκ hT q 14 10 hM rfl hb rfl rfl q2636 h0 h1 h2 hf d hq kk
    · split at hb
      · exact z_qastA C hκ hT q 14 13 hM rfl hb rfl rfl q2641 h0 h1 h2 hf d hq kk
      · exact z_qastA C hκ hT q 14 12 hM rfl hb rfl rfl q2640 h0 h1 h2 hf d hq kk
end XV
set_option maxRecDepth 100000 in
theorem k23_number_24 {l : Launch} {θ : zTh} {M N : zMap} (hT : zTb θ) (a : Nat) (nu : Int) (v1 : Value) (v2 : Value) (v3 : Value)  (hM : M a = some (.inr (24, [.int (iI (nu)), v1, v2, v3]))) : ZM θ l yX23_number cX23_number 1 (some .int) ⟨0, 0, 0, 0⟩ [.ref (a)] (zP θ M N) (zFn (some (.int (iI (nu)))) (zP θ M N)) := by
  refine z_start (own := RX23) (nm := "number") pnX23 rfl rfl (Nat.le_of_ble_eq_true rfl) ?_
  intro κ hκ hκl C
  change Z κ (zP θ M N) 0 0 0 [(0, .ref (a))] []
  refine z_aload_n C 1 0 dX23_number_0 rfl rfl ?_
  refine z_getf C hκ (v := .int (iI (nu))) 4 0 zk_X24 hM (by decide) q1271 (Or.inl rfl) rfl dX23_number_1 rfl ?_
  exact z_iret C dX23_number_4 rfl (Nat.le_of_ble_eq_true rfl) (Nat.le_of_ble_eq_true rfl) ⟨congrArg (fun z => some (Value.int (iI z))) (rfl), rfl⟩
set_option maxRecDepth 100000 in
theorem k23_number_27 {l : Launch} {θ : zTh} {M N : zMap} (hT : zTb θ) (a : Nat) (nu : Int) (v1 : Value) (v2 : Value) (v3 : Value) (v4 : Value)  (hM : M a = some (.inr (27, [.int (iI (nu)), v1, v2, v3, v4]))) : ZM θ l yX23_number cX23_number 1 (some .int) ⟨0, 0, 0, 0⟩ [.ref (a)] (zP θ M N) (zFn (some (.int (iI (nu)))) (zP θ M N)) := by
  refine z_start (own := RX23) (nm := "number") pnX23 rfl rfl (Nat.le_of_ble_eq_true rfl) ?_
  intro κ hκ hκl C
  change Z κ (zP θ M N) 0 0 0 [(0, .ref (a))] []
  refine z_aload_n C 1 0 dX23_number_0 rfl rfl ?_
  refine z_getf C hκ (v := .int (iI (nu))) 4 0 zk_X27 hM (by decide) q1271 (Or.inl rfl) rfl dX23_number_1 rfl ?_
  exact z_iret C dX23_number_4 rfl (Nat.le_of_ble_eq_true rfl) (Nat.le_of_ble_eq_true rfl) ⟨congrArg (fun z => some (Value.int (iI z))) (rfl), rfl⟩
set_option maxRecDepth 100000 in
theorem k0_addX_24 {l : Launch} {θ : zTh} {σ : xA} {w : mW} {M N : zMap} (hX : xM θ σ w (xL w) M) (hs : xS w) (hw : mWF w) (hT : zTb θ) (a : Nat) (v1 : Value) (v2 : Value) (v3 : Value)  (hM : M a = some (.inr (24, [.int (iI (w 27 0)), v1, v2, v3]))) (hfa : xFr σ w (xL w) a) (h80 : w 27 0 < 80) : ZM θ l yX0_add_2 cX0_add_2 2 (some .int) ⟨1, 0, 0, 20⟩ [.ref (σ 0 (0)), .ref (a)] (zP θ M N) (fun v9 Q9 => v9 = some (.int (iI (w 27 0))) ∧ ∃ f3 : Nat → Option Nat, M (σ 3 0) = some (.inl (θ.2.1 10, 80, xQ f3)) ∧ Q9 = zP θ (zup (zup M (σ 3 0) (.inl (θ.2.1 10, 80, xQ (va_up f3 (w 27 0).toNat (some a))))) (σ 0 0) (.inr (0, [.ref (σ 1 0), .int (iI (w 0 0)), .ref (σ 2 0), .int (iI (w 11 0)), .int (iI (w 12 0)), .ref (σ 3 0), .int (iI (w 27 0 + 1)), .ref (σ 4 0), .ref (σ 10 (w 34 0)), .ref (σ 5 0), .ref (σ 6 0), .int (iI (w 37 0)), .int (iI (w 38 0)), .int (iI (w 39 0))]))) N) := by
  refine z_start (own := RX0) (nm := "add") pnX0 rfl rfl (Nat.le_of_ble_eq_true rfl) ?_
  intro κ hκ hκl C
  change Z κ (zP θ M N) 0 0 0 [(0, .ref (σ 0 (0))), (1, .ref (a))] []
  have hS := hs.S
  have hB := hS.B
  obtain ⟨hB1, hB2, hB3, hB4, hB5, hB6⟩ := hS.B
  have hC := hS.C
  obtain ⟨h81, h82⟩ := hs.r8
  obtain ⟨e3, g3, f3, rfl, -⟩ := hX.g (k := 3) (by decide)
  refine z_aload_n C 1 0 dX0_add_2_0 rfl rfl ?_
  refine z_getf C hκ (v := .ref (σ 3 (0))) 4 5 zk_X0 hX.o (by decide) q332 (Or.inl rfl) rfl dX0_add_2_1 rfl ?_
  refine z_aload_n C 5 0 dX0_add_2_4 rfl rfl ?_
  refine z_getf C hκ (v := .int (iI (w 27 0))) 8 6 zk_X0 hX.o (by decide) q333 (Or.inl rfl) rfl dX0_add_2_5 rfl ?_
  refine z_aload_n C 9 1 dX0_add_2_8 rfl rfl ?_
  refine z_qastO C hκ hT 10 10 g3 rfl hM rfl q2588 (by omega) (by omega) (by decide) rfl dX0_add_2_9 rfl ?_
  obtain ⟨M1, eM1⟩ : ∃ z9 : zMap, zup M (σ 3 0) (.inl (θ.2.1 10, 80, xQ (va_up f3 (w 27 0).toNat (some a))) : va_E) = z9 := ⟨_, rfl⟩
  rw [eM1]
  have hM0 : M1 (σ 0 (0)) = _ := eM1 ▸ (zup_n (hX.ne (Or.inl ⟨by decide, rfl⟩ : xLv w (xL w) 0 0) (Or.inl ⟨by decide, rfl⟩ : xLv w (xL w) 3 0) (by decide))).trans hX.o
  have hMa : M1 a = _ := eM1 ▸ (zup_n (fun z9 => hfa _ _ (Or.inl ⟨by decide, rfl⟩ : xLv w (xL w) 3 0) z9.symm)).trans hM
  refine z_aload_n C 11 0 dX0_add_2_10 rfl rfl ?_
  refine z_dup C 12 dX0_add_2_11 rfl rfl ?_
  refine z_getf C hκ (v := .int (iI (w 27 0))) 15 6 zk_X0 hM0 (by decide) q333 (Or.inl rfl) rfl dX0_add_2_12 rfl ?_
  refine z_iconst C 16 dX0_add_2_15 rfl ?_
  refine z_iadd C 17 dX0_add_2_16 rfl ?_
  refine z_putf (fs' := [.ref (σ 1 (0)), .int (iI (w 0 0)), .ref (σ 2 (0)), .int (iI (w 11 0)), .int (iI (w 12 0)), .ref (σ 3 (0)), .int (iI ((w 27 0) + (1))), .ref (σ 4 (0)), .ref (σ 10 (w 34 0)), .ref (σ 5 (0)), .ref (σ 6 (0)), .int (iI (w 37 0)), .int (iI (w 38 0)), .int (iI (w 39 0))]) C hκ 20 6 zk_X0 hM0 (by decide) q333 (Or.inl rfl) rfl rfl rfl (Nat.le_of_ble_eq_true rfl) rfl dX0_add_2_17 rfl ?_
  obtain ⟨M2, eM2⟩ : ∃ z9 : zMap, zup M1 (σ 0 (0)) (.inr (0, [.ref (σ 1 (0)), .int (iI (w 0 0)), .ref (σ 2 (0)), .int (iI (w 11 0)), .int (iI (w 12 0)), .ref (σ 3 (0)), .int (iI ((w 27 0) + (1))), .ref (σ 4 (0)), .ref (σ 10 (w 34 0)), .ref (σ 5 (0)), .ref (σ 6 (0)), .int (iI (w 37 0)), .int (iI (w 38 0)), .int (iI (w 39 0))]) : va_E) = z9 := ⟨_, rfl⟩
  rw [eM2]
  have o1 : M2 a = _ := eM2 ▸ (zup_n (fun z9 => hfa _ _ (Or.inl ⟨by decide, rfl⟩ : xLv w (xL w) 0 0) z9.symm)).trans hMa
  refine z_aload_n C 21 1 dX0_add_2_20 rfl rfl ?_
  refine z_callU (owner := RX23) (As := []) (rest := []) C hκ hκl 24 (k23_number_24 hT (a) (w 27 0) (v1) (v2) (v3) o1) dX0_add_2_21 q1291 q2581 q2583 q494 q118 q496 rfl ⟨by decide, by decide, rfl⟩ (Nat.le_of_ble_eq_true rfl) (Nat.le_of_ble_eq_true rfl) (Nat.le_of_ble_eq_true rfl) (Nat.le_of_ble_eq_true rfl) (zrec_P o1) rfl rfl (Nat.le_of_ble_eq_true rfl) rfl (fun v9 Q9 h9 => ?_)
  obtain ⟨rfl, rfl⟩ := h9
  refine z_as (st' := [.int (iI ((w 27 0)))]) rfl rfl rfl ?_
  exact z_iret C dX0_add_2_24 rfl (Nat.le_of_ble_eq_true rfl) (Nat.le_of_ble_eq_true rfl) ⟨rfl, f3, g3, by rw [← eM2, ← eM1]⟩
set_option maxRecDepth 100000 in
theorem k0_addX_27 {l : Launch} {θ : zTh} {σ : xA} {w : mW} {M N : zMap} (hX : xM θ σ w (xL w) M) (hs : xS w) (hw : mWF w) (hT : zTb θ) (a : Nat) (v1 : Value) (v2 : Value) (v3 : Value) (v4 : Value)  (hM : M a = some (.inr (27, [.int (iI (w 27 0)), v1, v2, v3, v4]))) (hfa : xFr σ w (xL w) a) (h80 : w 27 0 < 80) : ZM θ l yX0_add_2 cX0_add_2 2 (some .int) ⟨1, 0, 0, 20⟩ [.ref (σ 0 (0)), .ref (a)] (zP θ M N) (fun v9 Q9 => v9 = some (.int (iI (w 27 0))) ∧ ∃ f3 : Nat → Option Nat, M (σ 3 0) = some (.inl (θ.2.1 10, 80, xQ f3)) ∧ Q9 = zP θ (zup (zup M (σ 3 0) (.inl (θ.2.1 10, 80, xQ (va_up f3 (w 27 0).toNat (some a))))) (σ 0 0) (.inr (0, [.ref (σ 1 0), .int (iI (w 0 0)), .ref (σ 2 0), .int (iI (w 11 0)), .int (iI (w 12 0)), .ref (σ 3 0), .int (iI (w 27 0 + 1)), .ref (σ 4 0), .ref (σ 10 (w 34 0)), .ref (σ 5 0), .ref (σ 6 0), .int (iI (w 37 0)), .int (iI (w 38 0)), .int (iI (w 39 0))]))) N) := by
  refine z_start (own := RX0) (nm := "add") pnX0 rfl rfl (Nat.le_of_ble_eq_true rfl) ?_
  intro κ hκ hκl C
  change Z κ (zP θ M N) 0 0 0 [(0, .ref (σ 0 (0))), (1, .ref (a))] []
  have hS := hs.S
  have hB := hS.B
  obtain ⟨hB1, hB2, hB3, hB4, hB5, hB6⟩ := hS.B
  have hC := hS.C
  obtain ⟨h81, h82⟩ := hs.r8
  obtain ⟨e3, g3, f3, rfl, -⟩ := hX.g (k := 3) (by decide)
  refine z_aload_n C 1 0 dX0_add_2_0 rfl rfl ?_
  refine z_getf C hκ (v := .ref (σ 3 (0))) 4 5 zk_X0 hX.o (by decide) q332 (Or.inl rfl) rfl dX0_add_2_1 rfl ?_
  refine z_aload_n C 5 0 dX0_add_2_4 rfl rfl ?_
  refine z_getf C hκ (v := .int (iI (w 27 0))) 8 6 zk_X0 hX.o (by decide) q333 (Or.inl rfl) rfl dX0_add_2_5 rfl ?_
  refine z_aload_n C 9 1 dX0_add_2_8 rfl rfl ?_
  refine z_qastO C hκ hT 10 10 g3 rfl hM rfl q2589 (by omega) (by omega) (by decide) rfl dX0_add_2_9 rfl ?_
  obtain ⟨M1, eM1⟩ : ∃ z9 : zMap, zup M (σ 3 0) (.inl (θ.2.1 10, 80, xQ (va_up f3 (w 27 0).toNat (some a))) : va_E) = z9 := ⟨_, rfl⟩
  rw [eM1]
  have hM0 : M1 (σ 0 (0)) = _ := eM1 ▸ (zup_n (hX.ne (Or.inl ⟨by decide, rfl⟩ : xLv w (xL w) 0 0) (Or.inl ⟨by decide, rfl⟩ : xLv w (xL w) 3 0) (by decide))).trans hX.o
  have hMa : M1 a = _ := eM1 ▸ (zup_n (fun z9 => hfa _ _ (Or.inl ⟨by decide, rfl⟩ : xLv w (xL w) 3 0) z9.symm)).trans hM
  refine z_aload_n C 11 0 dX0_add_2_10 rfl rfl ?_
  refine z_dup C 12 dX0_add_2_11 rfl rfl ?_
  refine z_getf C hκ (v := .int (iI (w 27 0))) 15 6 zk_X0 hM0 (by decide) q333 (Or.inl rfl) rfl dX0_add_2_12 rfl ?_
  refine z_iconst C 16 dX0_add_2_15 rfl ?_
  refine z_iadd C 17 dX0_add_2_16 rfl ?_
  refine z_putf (fs' := [.ref (σ 1 (0)), .int (iI (w 0 0)), .ref (σ 2 (0)), .int (iI (w 11 0)), .int (iI (w 12 0)), .ref (σ 3 (0)), .int (iI ((w 27 0) + (1))), .ref (σ 4 (0)), .ref (σ 10 (w 34 0)), .ref (σ 5 (0)), .ref (σ 6 (0)), .int (iI (w 37 0)), .int (iI (w 38 0)), .int (iI (w 39 0))]) C hκ 20 6 zk_X0 hM0 (by decide) q333 (Or.inl rfl) rfl rfl rfl (Nat.le_of_ble_eq_true rfl) rfl dX0_add_2_17 rfl ?_
  obtain ⟨M2, eM2⟩ : ∃ z9 : zMap, zup M1 (σ 0 (0)) (.inr (0, [.ref (σ 1 (0)), .int (iI (w 0 0)), .ref (σ 2 (0)), .int (iI (w 11 0)), .int (iI (w 12 0)), .ref (σ 3 (0)), .int (iI ((w 27 0) + (1))), .ref (σ 4 (0)), .ref (σ 10 (w 34 0)), .ref (σ 5 (0)), .ref (σ 6 (0)), .int (iI (w 37 0)), .int (iI (w 38 0)), .int (iI (w 39 0))]) : va_E) = z9 := ⟨_, rfl⟩
  rw [eM2]
  have o1 : M2 a = _ := eM2 ▸ (zup_n (fun z9 => hfa _ _ (Or.inl ⟨by decide, rfl⟩ : xLv w (xL w) 0 0) z9.symm)).trans hMa
  refine z_aload_n C 21 1 dX0_add_2_20 rfl rfl ?_
  refine z_callU (owner := RX23) (As := []) (rest := []) C hκ hκl 24 (k23_number_27 hT (a) (w 27 0) (v1) (v2) (v3) (v4) o1) dX0_add_2_21 q1291 q2581 q2582 q494 q118 q496 rfl ⟨by decide, by decide, rfl⟩ (Nat.le_of_ble_eq_true rfl) (Nat.le_of_ble_eq_true rfl) (Nat.le_of_ble_eq_true rfl) (Nat.le_of_ble_eq_true rfl) (zrec_P o1) rfl rfl (Nat.le_of_ble_eq_true rfl) rfl (fun v9 Q9 h9 => ?_)
  obtain ⟨rfl, rfl⟩ := h9
  refine z_as (st' := [.int (iI ((w 27 0)))]) rfl rfl rfl ?_
  exact z_iret C dX0_add_2_24 rfl (Nat.le_of_ble_eq_true rfl) (Nat.le_of_ble_eq_true rfl) ⟨rfl, f3, g3, by rw [← eM2, ← eM1]⟩
set_option maxRecDepth 100000 in
theorem k0_object {l : Launch} {θ : zTh} {σ : xA} {w : mW} {M N : zMap} (hX : xM θ σ w (xL w) M) (hs : xS w) (hw : mWF w) (hT : zTb θ) (t : Int) (r_t : inR t) (hV : mV w) (h17 : ∀ f : Int, 0 ≤ f → f < w 11 0 → w 16 f = 1 → 0 ≤ w 17 f) : ZM θ l yX0_object cX0_object 5 (some .int) ⟨247, 102, 2104, 2530⟩ [.ref (σ 0 (0)), .int (iI (t))] (zP θ M N) (xOp θ σ N (obI w t) (obW w t)) := by
  refine z_start (own := RX0) (nm := "object") pnX0 rfl rfl (Nat.le_of_ble_eq_true rfl) ?_
  intro κ hκ hκl C
  change Z κ (zP θ M N) 0 0 0 [(0, .ref (σ 0 (0))), (1, .int (iI (t)))] []
  have hS := hs.S
  have hB := hS.B
  obtain ⟨hB1, hB2, hB3, hB4, hB5, hB6⟩ := hS.B
  have hC := hS.C
  obtain ⟨h81, h82⟩ := hs.r8
  have ge0 : zGe M M := zGe.rf
  refine z_aload_n C 1 0 dX0_object_0 rfl rfl ?_
  refine z_iload_n C 2 1 dX0_object_1 rfl rfl ?_
  refine z_callV (As := [.int (iI (t))]) (rest := []) C hκ hκl 5 (k0_isType hX hs hw hT (t) r_t) dX0_object_2 q374 q376 qs1 q90 q377 znX0_isType (Nat.le_of_ble_eq_true rfl) (Nat.le_of_ble_eq_true rfl) (Nat.le_of_ble_eq_true rfl) (Nat.le_of_ble_eq_true rfl) (zrec_P hX.o) rfl rfl (Nat.le_of_ble_eq_true rfl) rfl (fun v9 Q9 h9 => ?_)
  obtain ⟨rfl, rfl⟩ := h9
  refine z_as (st' := [.int (iI (bI (tyB w (t))))]) rfl rfl rfl ?_
  refine z_ifB_eq C 20 8 dX0_object_5 (by decide) rfl (fun c1 => ?_) (fun c1 => ?_)
  · skip
    have c1b : ¬ (0 ≤ (t) ∧ (t) < w 0 0) := of_decide_eq_false c1
    refine z_iconst C 21 dX0_object_20 rfl ?_
    exact z_iret C dX0_object_21 rfl (Nat.le_of_ble_eq_true rfl) (Nat.le_of_ble_eq_true rfl) (by have h9 : clB w t = false := (by clear C hκ hκl hS hB hB1 hB2 hB3 hB4 hB5 hB6 hC hw hX hs hT h81 h82; unfold clB; first | (simp_all [tyB]; done) | (simp_all [tyB] <;> omega)); unfold obI obW obB; rw [if_pos (by simp [h9]), if_neg (by simp [h9])]; exact xOp_same hX)
  · skip
    have c1b : (0 ≤ (t) ∧ (t) < w 0 0) := of_decide_eq_true c1
    refine z_aload_n C 9 0 dX0_object_8 rfl rfl ?_
    refine z_getf C hκ (v := .ref (σ 1 (0))) 12 0 zk_X0 hX.o (by decide) q325 (Or.inl rfl) rfl dX0_object_9 rfl ?_
    refine z_iload_n C 13 1 dX0_object_12 rfl rfl ?_
    refine x_aT C hκ 14 hX hs (by omega) (by omega) dX0_object_13 rfl ?_
    obtain ⟨f2a, f2b, f2c, f2d, f2e, f2f, f2g, f2h⟩ := hS.T (show 0 ≤ t by omega) (by omega)
    obtain ⟨f2i, f2j, f2k, f2l⟩ := hs.ty (show 0 ≤ t by omega) (by omega)
    refine xv_isClass (rest := []) C hκ hκl hX hs hw hT (t)   ⟨(by omega), (by omega)⟩  17 dX0_object_14 q381 (Nat.le_of_ble_eq_true rfl) (Nat.le_of_ble_eq_true rfl) (Nat.le_of_ble_eq_true rfl) (Nat.le_of_ble_eq_true rfl) (Nat.le_of_ble_eq_true rfl) rfl ?_
    refine z_as (st' := [.int (iI (bI (clB w (t))))]) rfl rfl rfl ?_
    refine z_ifB_ne C 22 20 dX0_object_17 (by decide) rfl (fun c3 => ?_) (fun c3 => ?_)
    · skip
      have c3b : (0 ≤ (t) ∧ (t) < w 0 0 ∧ (w 1 (t) = 1 ∨ w 1 (t) = 2)) := of_decide_eq_true c3
      refine z_aload_n C 23 0 dX0_object_22 rfl rfl ?_
      refine z_getf C hκ (v := .int (iI (w 27 0))) 26 6 zk_X0 hX.o (by decide) q333 (Or.inl rfl) rfl dX0_object_23 rfl ?_
      refine z_bipush C 28 dX0_object_26 (by decide) rfl ?_
      refine z_icmp_ne C 34 31 dX0_object_28 (by decide) ⟨by omega, by omega⟩ ⟨by decide, by decide⟩ rfl (fun c4 => ?_) (fun c4 => ?_)
      · skip
        refine z_aload_n C 35 0 dX0_object_34 rfl rfl ?_
        refine z_getf C hκ (v := .ref (σ 1 (0))) 38 0 zk_X0 hX.o (by decide) q325 (Or.inl rfl) rfl dX0_object_35 rfl ?_
        refine z_iload_n C 39 1 dX0_object_38 rfl rfl ?_
        refine x_aT C hκ 40 hX hs (by omega) (by omega) dX0_object_39 rfl ?_
        refine xv_what (rest := []) C hκ hκl hX hs hw hT (t)   ⟨(by omega), (by omega)⟩  43 dX0_object_40 q459 (Nat.le_of_ble_eq_true rfl) (Nat.le_of_ble_eq_true rfl) (Nat.le_of_ble_eq_true rfl) (Nat.le_of_ble_eq_true rfl) (Nat.le_of_ble_eq_true rfl) rfl ?_
        refine z_as (st' := [.int (iI (w 1 (t)))]) rfl rfl rfl ?_
        refine z_iconst C 44 dX0_object_43 rfl ?_
        refine z_icmp_ne C 50 47 dX0_object_44 (by decide) (hw.r _ _ rfl) ⟨by decide, by decide⟩ rfl (fun c5 => ?_) (fun c5 => ?_)
        · skip
          have hcl1 : w 1 t = 1 ∨ w 1 t = 2 := by clear C hκ hκl; simp_all [clB, tyB]
          have hobB : obB w t = true := by clear C hκ hκl; unfold obB clB; simp_all
          have ht8 : 8 ≤ t := by have h9 := (hs.BT t (by omega) (by omega)).2.2.2.2.2; omega
          refine z_new (fs := [.int (iI (0)), .null, .int (iI (0)), .null]) C hκ 53 zk_X24 q556 q1258 q119 (fun j9 h9 => match j9, h9 with | 0, _ => rfl | 1, _ => rfl | 2, _ => rfl | 3, _ => rfl | (j9 + 4), h9 => absurd h9 (by omega)) (Nat.le_of_ble_eq_true rfl) (Nat.le_of_ble_eq_true rfl) dX0_object_50 rfl (fun a6 a6M a6N => ?_)
          refine z_widen (n' := 1) (k' := 4) (Nat.le_refl _) (Nat.le_refl _) ?_
          have fr7 : xFr σ w (xL w) a6 := hX.fr a6M
          have fr8 : M a6 = none := ge0.no a6M
          obtain ⟨M1, eM1⟩ : ∃ z9 : zMap, zup M a6 (.inr (24, [.int (iI (0)), .null, .int (iI (0)), .null]) : va_E) = z9 := ⟨_, rfl⟩
          rw [eM1]
          have hX9 : xM θ σ w (xL w) M1 := eM1 ▸ hX.up fr7
          have ge10 : zGe M M1 := eM1 ▸ ge0.up fr8
          have o11 : M1 a6 = some (.inr (24, [.int (iI (0)), .null, .int (iI (0)), .null])) := eM1 ▸ zup_s
          refine z_dup C 54 dX0_object_53 rfl rfl ?_
          refine z_aload_n C 55 0 dX0_object_54 rfl rfl ?_
          refine z_getf C hκ (v := .int (iI (w 27 0))) 58 6 zk_X0 hX9.o (by decide) q333 (Or.inl rfl) rfl dX0_object_55 rfl ?_
          refine z_aload_n C 59 0 dX0_object_58 rfl rfl ?_
          refine z_getf C hκ (v := .ref (σ 1 (0))) 62 0 zk_X0 hX9.o (by decide) q325 (Or.inl rfl) rfl dX0_object_59 rfl ?_
          refine z_iload_n C 63 1 dX0_object_62 rfl rfl ?_
          refine x_aT C hκ 64 hX9 hs (by omega) (by omega) dX0_object_63 rfl ?_
          refine z_callI (As := [.int (iI (w 27 0)), .ref (σ 10 (t))]) (rest := [.ref (a6)]) C hκ hκl 67 (k24_init_24 hT (a6) (w 27 0) (σ 10 (t)) ⟨by omega, by omega⟩ o11) dX0_object_64 q1259 q1260 q119 q1261 znX24_init rfl (Nat.le_of_ble_eq_true rfl) (Nat.le_of_ble_eq_true rfl) (Nat.le_of_ble_eq_true rfl) (Nat.le_of_ble_eq_true rfl) rfl (Nat.le_of_ble_eq_true rfl) rfl (fun v9 Q9 h9 => ?_)
          obtain ⟨rfl, Mr12, vlr12, rfl, fxr12, oar12, hvlr12, gvlr12, ivlr12⟩ := h9
          have ne13 : a6 ≠ vlr12 := fun z9 => by have z8 := o11; rw [z9, gvlr12] at z8; cases z8
          have fr14 : xFr σ w (xL w) vlr12 := hX9.fr gvlr12
          have fr15 : M vlr12 = none := ge10.no gvlr12
          have hX16 : xM θ σ w (xL w) Mr12 := hX9.fx fxr12 fr7
          have ge17 : zGe M Mr12 := ge10.fx fxr12 fr8
          refine z_as (Pic' := zP θ Mr12 N) (st' := [.ref (a6)]) rfl rfl rfl ?_
          refine z_widen (n' := 2) (k' := 104) (Nat.le_refl _) (Nat.le_refl _) ?_
          refine z_astore_n (lv' := [(0, .ref (σ 0 (0))), (1, .int (iI (t))), (2, .ref (a6))]) C 68 [1, 2, 0] dX0_object_67 (by decide) rfl rfl ?_
          refine z_iconst C 69 dX0_object_68 rfl ?_
          refine z_istore_n (lv' := [(0, .ref (σ 0 (0))), (1, .int (iI (t))), (2, .ref (a6)), (3, .int (iI (0)))]) C 70 [1, 2, 3, 0] dX0_object_69 (by decide) rfl rfl ?_
          have L70_18 : ∀ (fu : Nat) (j : Nat) (M9 : zMap) (ra : Int → Nat) (f : Nat → Option Nat) (hj : (j : Int) ≤ w 11 0) (hI : obV θ σ w M a6 vlr12 t (j : Int) M9 ra f) (hme : (w 11 0).toNat - j < fu), Z κ (zP θ M9 N) (2 + j) (104 + 20 * j) 70 [(0, .ref (σ 0 (0))), (1, .int (iI (t))), (2, .ref (a6)), (3, .int (iI ((j : Int))))] [] := by
            intro fu
            induction fu with
            | zero => intro j M9 ra f hj hI hme; exact absurd hme (Nat.not_lt_zero _)
            | succ fu ih19 =>
              intro j M9 ra f hj hI hme
              obtain ⟨hge, hMa, hvl, -, -⟩ := id hI
              have hX9 := hX.ge hge
              refine z_iload_n C 71 3 dX0_object_70 rfl rfl ?_
              refine z_aload_n C 72 0 dX0_object_71 rfl rfl ?_
              refine z_getf C hκ (v := .int (iI (w 11 0))) 75 3 zk_X0 hX9.o (by decide) q330 (Or.inl rfl) rfl dX0_object_72 rfl ?_
              refine z_icmp_ge C 139 78 dX0_object_75 (by decide) ⟨by omega, by omega⟩ ⟨by omega, by omega⟩ rfl (fun c20 => ?_) (fun c20 => ?_)
              · skip
                refine z_widen (n' := 102) (k' := 2104) (by omega) (by omega) ?_
                have hj9 : (j : Int) = w 11 0 := by omega
                rw [hj9] at hI
                have hfa9 : xFr σ w (xL w) a6 := hX.fr fr8
                refine z_aload_n C 140 0 dX0_object_139 rfl rfl ?_
                refine z_aload_n C 141 2 dX0_object_140 rfl rfl ?_
                refine z_callV (As := [.ref (a6)]) (rest := []) C hκ hκl 144 (k0_addX_24 hX9 hs hw hT (a6) (.ref (σ 10 (t))) (.int (iI (-1))) (.ref (vlr12)) hMa hfa9 (by omega)) dX0_object_141 q1287 q1289 qs14 q90 q1290 znX0_add_2 (Nat.le_of_ble_eq_true rfl) (Nat.le_of_ble_eq_true rfl) (Nat.le_of_ble_eq_true rfl) (Nat.le_of_ble_eq_true rfl) (zrec_P hX9.o) rfl rfl (Nat.le_of_ble_eq_true rfl) rfl (fun v9 Q9 h9 => ?_)
                obtain ⟨rfl, f21, gf21, rfl⟩ := h9
                refine z_widen (n' := 102) (k' := 2104) (Nat.le_refl _) (Nat.le_refl _) ?_
                exact z_iret C dX0_object_144 rfl (Nat.le_of_ble_eq_true rfl) (Nat.le_of_ble_eq_true rfl) (by have h9 : obB w t = true := hobB; unfold obI obW; rw [if_neg (by clear C hκ hκl hS hB hB1 hB2 hB3 hB4 hB5 hB6 hC hw hX hs hT h81 h82 f2a f2b f2c f2d f2e f2f f2g f2h f2i f2j f2k f2l ih19 hme; unfold obB at h9; simp_all), if_neg (by omega), if_neg (by omega), if_pos h9]; exact ⟨rfl, _, xS3 σ (w 27 0) a6 vlr12 ra, rfl, xS3_o (by omega), newX_one hs hV hX ⟨by omega, by omega⟩ hI fr8 fr15 gf21⟩)
              · skip
                refine z_aload_n C 79 0 dX0_object_78 rfl rfl ?_
                refine z_getf C hκ (v := .ref (σ 2 (0))) 82 2 zk_X0 hX9.o (by decide) q329 (Or.inl rfl) rfl dX0_object_79 rfl ?_
                refine z_iload_n C 83 3 dX0_object_82 rfl rfl ?_
                refine x_aM C hκ 84 hX9 hs (by omega) (by omega) dX0_object_83 rfl ?_
                obtain ⟨f22a, f22b, f22c, f22d⟩ := hS.M (show 0 ≤ (j : Int) by omega) (by omega)
                refine z_astore (lv' := [(0, .ref (σ 0 (0))), (1, .int (iI (t))), (2, .ref (a6)), (3, .int (iI ((j : Int)))), (4, .ref (σ 20 ((j : Int))))]) C 86 [1, 2, 3, 4, 0] dX0_object_84 (by decide) rfl rfl ?_
                refine z_aload C 88 4 dX0_object_86 rfl rfl ?_
                refine z_getf C hκ (v := .int (iI (bI (mb w 16 ((j : Int)))))) 91 4 zk_X9 (hX9.mem (by omega) (by omega)) (by decide) q664 (Or.inl rfl) rfl dX0_object_88 rfl ?_
                refine z_ifB_eq C 133 94 dX0_object_91 (by decide) rfl (fun c23 => ?_) (fun c23 => ?_)
                · skip
                  have c23b : ¬ (w 16 ((j : Int)) = 1) := of_decide_eq_false c23
                  refine z_iinc (lv' := [(0, .ref (σ 0 (0))), (1, .int (iI (t))), (2, .ref (a6)), (3, .int (iI (((j : Int)) + 1))), (4, .ref (σ 20 ((j : Int))))]) C 136 3 [1, 2, 3, 0, 4] dX0_object_133 rfl (by decide) rfl rfl ?_
                  refine z_goto C 70 dX0_object_136 (by decide) ?_
                  refine z_widen (n' := 2 + (j + 1)) (k' := 104 + 20 * (j + 1)) (by first | omega | (dsimp only; omega)) (by first | omega | (dsimp only; omega)) ?_
                  refine z_sub [0, 1, 2, 3] (lv' := [(0, .ref (σ 0 (0))), (1, .int (iI (t))), (2, .ref (a6)), (3, .int (iI (((j : Int)) + 1)))]) rfl ?_
                  refine z_as (lv' := [(0, .ref (σ 0 (0))), (1, .int (iI (t))), (2, .ref (a6)), (3, .int (iI (((j + 1) : Int))))]) rfl rfl rfl ?_
                  exact ih19 (j + 1) (M9) (ra) (f) (by omega) (obV_n hI (by clear C hκ hκl hS hB hB1 hB2 hB3 hB4 hB5 hB6 hC hw hX hs hT h81 h82 f2a f2b f2c f2d f2e f2f f2g f2h f2i f2j f2k f2l ih19 hme f22a f22b f22c f22d; unfold obC; first | (simp_all [mb]; done) | grind)) (by omega)
                · skip
                  have c23b : (w 16 ((j : Int)) = 1) := of_decide_eq_true c23
                  refine z_aload C 96 4 dX0_object_94 rfl rfl ?_
                  refine z_iconst C 97 dX0_object_96 rfl ?_
                  refine z_callV (As := [.int (iI (4))]) (rest := []) C hκ hκl 100 (k9_has hX9 hs hw hT ((j : Int)) (4) ⟨by decide, by decide⟩ ⟨by omega, by omega⟩) dX0_object_97 q711 q712 q713 q103 q714 znX9_has (Nat.le_of_ble_eq_true rfl) (Nat.le_of_ble_eq_true rfl) (by first | omega | (dsimp only; omega)) (by first | omega | (dsimp only; omega)) (zrec_P (hX9.mem (by omega) (by omega))) rfl rfl (Nat.le_of_ble_eq_true rfl) rfl (fun v9 Q9 h9 => ?_)
                  obtain ⟨rfl, rfl⟩ := h9
                  refine z_as (st' := [.int (iI (bI (hasB w ((j : Int)) (4))))]) rfl rfl rfl ?_
                  refine z_ifB_ne C 133 103 dX0_object_100 (by decide) rfl (fun c24 => ?_) (fun c24 => ?_)
                  · skip
                    refine z_iinc (lv' := [(0, .ref (σ 0 (0))), (1, .int (iI (t))), (2, .ref (a6)), (3, .int (iI (((j : Int)) + 1))), (4, .ref (σ 20 ((j : Int))))]) C 136 3 [1, 2, 3, 0, 4] dX0_object_133 rfl (by decide) rfl rfl ?_
                    refine z_goto C 70 dX0_object_136 (by decide) ?_
                    refine z_widen (n' := 2 + (j + 1)) (k' := 104 + 20 * (j + 1)) (by first | omega | (dsimp only; omega)) (by first | omega | (dsimp only; omega)) ?_
                    refine z_sub [0, 1, 2, 3] (lv' := [(0, .ref (σ 0 (0))), (1, .int (iI (t))), (2, .ref (a6)), (3, .int (iI (((j : Int)) + 1)))]) rfl ?_
                    refine z_as (lv' := [(0, .ref (σ 0 (0))), (1, .int (iI (t))), (2, .ref (a6)), (3, .int (iI (((j + 1) : Int))))]) rfl rfl rfl ?_
                    exact ih19 (j + 1) (M9) (ra) (f) (by omega) (obV_n hI (by clear C hκ hκl hS hB hB1 hB2 hB3 hB4 hB5 hB6 hC hw hX hs hT h81 h82 f2a f2b f2c f2d f2e f2f f2g f2h f2i f2j f2k f2l ih19 hme f22a f22b f22c f22d; unfold obC; first | (simp_all [mb]; done) | grind)) (by omega)
                  · skip
                    refine z_aload_n C 104 2 dX0_object_103 rfl rfl ?_
                    refine z_getf C hκ (v := .ref (σ 10 (t))) 107 1 zk_X24 hMa (by decide) q1275 (Or.inr q1276) rfl dX0_object_104 rfl ?_
                    refine z_aload C 109 4 dX0_object_107 rfl rfl ?_
                    refine z_getf C hκ (v := .ref (σ 10 (w 13 ((j : Int))))) 112 1 zk_X9 (hX9.mem (by omega) (by omega)) (by decide) q657 (Or.inl rfl) rfl dX0_object_109 rfl ?_
                    have hgi : giB w t (w 13 (j : Int)) = decide (w 13 (j : Int) ∈ xL w t) := gi_cl hs ⟨by omega, by omega⟩ hcl1 ⟨by omega, by omega⟩
                    obtain ⟨f25a, f25b, f25c, f25d, f25e, f25f, f25g, f25h⟩ := hS.T (show 0 ≤ w 13 ((j : Int)) by omega) (by omega)
                    obtain ⟨f25i, f25j, f25k, f25l⟩ := hs.ty (show 0 ≤ w 13 ((j : Int)) by omega) (by omega)
                    refine xv_is (rest := []) C hκ hκl hX9 hs hw hT (t) (w 13 ((j : Int))) ⟨(by omega), (by omega)⟩ ⟨(by omega), (by omega)⟩ 115 dX0_object_112 q557 (Nat.le_of_ble_eq_true rfl) (Nat.le_of_ble_eq_true rfl) (by first | omega | (dsimp only; omega)) (by first | omega | (dsimp only; omega)) (Nat.le_of_ble_eq_true rfl) rfl ?_
                    refine z_as (st' := [.int (iI (bI (giB w (t) (w 13 ((j : Int))))))]) rfl rfl rfl ?_
                    refine z_ifB_eq C 133 118 dX0_object_115 (by decide) rfl (fun c26 => ?_) (fun c26 => ?_)
                    · skip
                      refine z_iinc (lv' := [(0, .ref (σ 0 (0))), (1, .int (iI (t))), (2, .ref (a6)), (3, .int (iI (((j : Int)) + 1))), (4, .ref (σ 20 ((j : Int))))]) C 136 3 [1, 2, 3, 0, 4] dX0_object_133 rfl (by decide) rfl rfl ?_
                      refine z_goto C 70 dX0_object_136 (by decide) ?_
                      refine z_widen (n' := 2 + (j + 1)) (k' := 104 + 20 * (j + 1)) (by first | omega | (dsimp only; omega)) (by first | omega | (dsimp only; omega)) ?_
                      refine z_sub [0, 1, 2, 3] (lv' := [(0, .ref (σ 0 (0))), (1, .int (iI (t))), (2, .ref (a6)), (3, .int (iI (((j : Int)) + 1)))]) rfl ?_
                      refine z_as (lv' := [(0, .ref (σ 0 (0))), (1, .int (iI (t))), (2, .ref (a6)), (3, .int (iI (((j + 1) : Int))))]) rfl rfl rfl ?_
                      exact ih19 (j + 1) (M9) (ra) (f) (by omega) (obV_n hI (by clear C hκ hκl hS hB hB1 hB2 hB3 hB4 hB5 hB6 hC hw hX hs hT h81 h82 f2a f2b f2c f2d f2e f2f f2g f2h f2i f2j f2k f2l ih19 hme f22a f22b f22c f22d f25a f25b f25c f25d f25e f25f f25g f25h f25i f25j f25k f25l; unfold obC; first | (simp_all [mb]; done) | grind)) (by omega)
                    · skip
                      refine z_aload_n C 119 2 dX0_object_118 rfl rfl ?_
                      refine z_getf C hκ (v := .ref (vlr12)) 122 3 zk_X24 hMa (by decide) q1270 (Or.inl rfl) rfl dX0_object_119 rfl ?_
                      refine z_iload_n C 123 3 dX0_object_122 rfl rfl ?_
                      have h17j := h17 (j : Int) (by omega) (by omega) (by simp_all [mb])
                      refine z_aload C 125 4 dX0_object_123 rfl rfl ?_
                      refine z_getf C hκ (v := va_rf (xo σ 10 (w 17 ((j : Int))))) 128 5 zk_X9 (hX9.mem (by omega) (by omega)) (by decide) q672 (Or.inl rfl) rfl dX0_object_125 rfl ?_
                      refine z_iconst C 129 dX0_object_128 rfl ?_
                      have y27 : 0 ≤ w 17 ((j : Int)) := (by omega)
                      rw [xo_y y27]
                      refine z_as (st' := [.int (iI (1)), .ref (σ 10 (w 17 ((j : Int)))), .int (iI ((j : Int))), .ref (vlr12)]) (lv' := [(0, .ref (σ 0 (0))), (1, .int (iI (t))), (2, .ref (a6)), (3, .int (iI ((j : Int)))), (4, .ref (σ 20 ((j : Int))))]) rfl rfl rfl ?_
                      refine xv_row (rest := [.int (iI ((j : Int))), .ref (vlr12)]) C hκ hκl hX9 hs hw hT (w 17 (j : Int)) 1 ⟨by decide, by decide⟩ ⟨by omega, by omega⟩ ⟨by decide, by decide⟩ 132 dX0_object_129 q715 (Nat.le_of_ble_eq_true rfl) (Nat.le_of_ble_eq_true rfl) (by first | omega | (dsimp only; omega)) (by first | omega | (dsimp only; omega)) (Nat.le_of_ble_eq_true rfl) rfl (fun a28 ea28 a28M a28R => ?_)
                      refine x_astO C hκ hT 133 ((zup_n (fun z9 => by rw [z9, a28M] at hvl; cases hvl)).trans hvl) zup_s a28R (by omega) (by omega) (by decide) (show va_up f (((j : Int)).toNat) (some a28) = va_up f j (some a28) from rfl) dX0_object_132 rfl ?_
                      refine z_iinc (lv' := [(0, .ref (σ 0 (0))), (1, .int (iI (t))), (2, .ref (a6)), (3, .int (iI (((j : Int)) + 1))), (4, .ref (σ 20 ((j : Int))))]) C 136 3 [1, 2, 3, 0, 4] dX0_object_133 rfl (by decide) rfl rfl ?_
                      refine z_goto C 70 dX0_object_136 (by decide) ?_
                      refine z_widen (n' := 2 + (j + 1)) (k' := 104 + 20 * (j + 1)) (by first | omega | (dsimp only; omega)) (by first | omega | (dsimp only; omega)) ?_
                      refine z_sub [0, 1, 2, 3] (lv' := [(0, .ref (σ 0 (0))), (1, .int (iI (t))), (2, .ref (a6)), (3, .int (iI (((j : Int)) + 1)))]) rfl ?_
                      refine z_as (lv' := [(0, .ref (σ 0 (0))), (1, .int (iI (t))), (2, .ref (a6)), (3, .int (iI (((j + 1) : Int))))]) rfl rfl rfl ?_
                      exact ih19 (j + 1) (zup (zup M9 a28 ea28) vlr12 (.inl (θ.2.1 14, 100, xQ (va_up f j (some a28))))) (fun i => if i = j then a28 else ra i) (va_up f j (some a28)) (by omega) (obV_y hI fr15 a28M a28R) (by omega)
          refine z_as (lv' := [(0, .ref (σ 0 (0))), (1, .int (iI (t))), (2, .ref (a6)), (3, .int (iI (((0) : Int))))]) rfl rfl rfl ?_
          exact L70_18 _ (0) (Mr12) (fun _ => 0) (fun _ => none) (by omega) (obV_0 ge17 oar12 hvlr12) (Nat.lt_succ_self _)
        · skip
          refine z_bipush C 49 dX0_object_47 (by decide) rfl ?_
          exact z_iret C dX0_object_49 rfl (Nat.le_of_ble_eq_true rfl) (Nat.le_of_ble_eq_true rfl) (by unfold obI obW obB; rw [if_neg (by clear C hκ hκl hS hB hB1 hB2 hB3 hB4 hB5 hB6 hC hw hX hs hT h81 h82 f2a f2b f2c f2d f2e f2f f2g f2h f2i f2j f2k f2l; simp_all [clB, tyB]), if_neg (by omega), if_pos (by clear C hκ hκl hS hB hB1 hB2 hB3 hB4 hB5 hB6 hC hw hX hs hT h81 h82 f2a f2b f2c f2d f2e f2f f2g f2h f2i f2j f2k f2l; first | (simp_all; done) | omega), if_neg (by clear C hκ hκl hS hB hB1 hB2 hB3 hB4 hB5 hB6 hC hw hX hs hT h81 h82 f2a f2b f2c f2d f2e f2f f2g f2h f2i f2j f2k f2l; simp_all)]; exact xOp_same hX)
      · skip
        refine z_bipush C 33 dX0_object_31 (by decide) rfl ?_
        exact z_iret C dX0_object_33 rfl (Nat.le_of_ble_eq_true rfl) (Nat.le_of_ble_eq_true rfl) (by unfold obI obW obB; rw [if_neg (by clear C hκ hκl hS hB hB1 hB2 hB3 hB4 hB5 hB6 hC hw hX hs hT h81 h82 f2a f2b f2c f2d f2e f2f f2g f2h f2i f2j f2k f2l; simp_all [clB, tyB]), if_pos (by omega), if_neg (by simp; omega)]; exact xOp_same hX)
    · skip
      have c3b : ¬ (0 ≤ (t) ∧ (t) < w 0 0 ∧ (w 1 (t) = 1 ∨ w 1 (t) = 2)) := of_decide_eq_false c3
      refine z_iconst C 21 dX0_object_20 rfl ?_
      exact z_iret C dX0_object_21 rfl (Nat.le_of_ble_eq_true rfl) (Nat.le_of_ble_eq_true rfl) (by have h9 : clB w t = false := (by clear C hκ hκl hS hB hB1 hB2 hB3 hB4 hB5 hB6 hC hw hX hs hT h81 h82 f2a f2b f2c f2d f2e f2f f2g f2h f2i f2j f2k f2l; unfold clB; first | (simp_all [tyB]; done) | (simp_all [tyB] <;> omega)); unfold obI obW obB; rw [if_pos (by simp [h9]), if_neg (by simp [h9])]; exact xOp_same hX)
