/-! ===== a new type ===== -/
theorem xo_eq {σ σ' : xA} {k : Nat} {z : Int} (h : 0 ≤ z → σ' k z = σ k z) : xo σ' k z = xo σ k z := by
  unfold xo; split
  · rfl
  · rw [h (by omega)]
theorem xci_eq {w w1 : mW} {t : Int} (h : w1 1 t = w 1 t) : xci w1 t = xci w t := by unfold xci; rw [h]
theorem xcA_eq {θ : zTh} {w w1 : mW} {t : Int} (h : w1 1 t = w 1 t) : xcA θ w1 t = xcA θ w t := by unfold xcA; rw [h]
theorem xTyG_eq {σ σ' : xA} {w w1 : mW} {t n9 : Int} (h : ∀ k : Nat, 1 ≤ k → k ≤ 6 → w1 k t = w k t) (h11 : σ' 11 t = σ 11 t) (h12 : σ' 12 t = σ 12 t) (h13 : σ' 13 t = σ 13 t) (h8 : σ' 10 8 = σ 10 8) (h5 : 0 ≤ w 5 t → σ' 10 (w 5 t) = σ 10 (w 5 t)) (h2 : 0 ≤ w 2 t → σ' 10 (w 2 t) = σ 10 (w 2 t)) (h4 : 0 ≤ w 4 t → σ' 10 (w 4 t) = σ 10 (w 4 t)) : xTyG σ' w1 t n9 = xTyG σ w t n9 := by
  unfold xTyG xT8
  rw [xci_eq (h 1 (by decide) (by decide)), h 3 (by decide) (by decide), h 6 (by decide) (by decide), h 5 (by decide) (by decide), h 2 (by decide) (by decide), h 4 (by decide) (by decide), h 1 (by decide) (by decide), h11, h12, h13, h8, xo_eq h5, xo_eq h2, xo_eq h4]
theorem xRow_eq {θ : zTh} {σ σ' : xA} {w w1 : mW} {t : Int} {len : Nat} {v v' : Nat → Int} {e : va_E} (h1 : w1 1 t = w 1 t) (hv : ∀ j, j < len → v' j = v j) (h30 : ∀ j, j < len → 0 ≤ v j → 8 ≤ t → σ' 30 (v j) = σ 30 (v j)) (h : xRow θ σ w t len v e) : xRow θ σ' w1 t len v' e := by
  unfold xRow at *
  rcases h with ⟨a, b, f, c, d⟩ | ⟨a, f, c, d⟩ | ⟨a, f, c, d⟩ | ⟨a, f, c, d⟩ | ⟨a, f, c, d⟩
  · exact Or.inl ⟨a, b, f, c, fun j hj => by rw [hv j hj]; exact d j hj⟩
  · exact Or.inr (Or.inl ⟨a, f, c, fun j hj => by rw [hv j hj]; exact d j hj⟩)
  · exact Or.inr (Or.inr (Or.inl ⟨a, f, c, fun j hj => by rw [hv j hj]; exact d j hj⟩))
  · exact Or.inr (Or.inr (Or.inr (Or.inl ⟨a, f, c, fun j hj => by rw [hv j hj]; exact d j hj⟩)))
  · exact Or.inr (Or.inr (Or.inr (Or.inr ⟨a, f, by rw [xcA_eq h1]; exact c, fun j hj => by rw [hv j hj, xo_eq (fun h0 => h30 j hj h0 a)]; exact d j hj⟩)))
section XNEW
variable {θ : zTh} {σ σ' : xA} {w w1 : mW} {M M2 : zMap} {n t : Int}
theorem xM_newT (hs : xS w) (hX : xM θ σ w (xL w) M) (hn : n = w 0 0) (c0 : w1 0 0 = n + 1) (wa : ∀ (k : Nat) (i : Int), k ≠ 0 → k ≠ 8 → k ≠ 9 → k ≠ 10 → i ≠ n → ¬ (k = 5 ∧ i = t) → w1 k i = w k i) (wb : ∀ (k : Nat) (i : Int), 7 ≤ k → k ≠ 8 → k ≠ 9 → k ≠ 10 → w1 k i = w k i)
    (sσ : ∀ (k : Nat) (i : Int), ¬ (i = n ∧ (k = 10 ∨ k = 11 ∨ k = 12 ∨ k = 13)) → σ' k i = σ k i) (ht : t < n) (h6 : w1 6 n = 0)
    (h0 : M2 (σ 0 0) = some (.inr (0, [.ref (σ 1 0), .int (iI (n + 1)), .ref (σ 2 0), .int (iI (w 11 0)), .int (iI (w 12 0)), .ref (σ 3 0), .int (iI (w 27 0)), .ref (σ 4 0), .ref (σ 10 (w 34 0)), .ref (σ 5 0), .ref (σ 6 0), .int (iI (w 37 0)), .int (iI (w 38 0)), .int (iI (w 39 0))])))
    (h1 : ∃ f, M2 (σ 1 0) = some (.inl (θ.2.1 8, 60, xQ f)) ∧ ∀ j : Nat, (j : Int) < n + 1 → f j = some (σ' 10 j))
    (hn10 : M2 (σ' 10 n) = some (.inr (xci w1 n, xTyG σ' w1 n 0))) (hn11 : ∃ f, M2 (σ' 11 n) = some (.inl (θ.2.1 8, 3, xQ f))) (hn12 : ∃ f, M2 (σ' 12 n) = some (.inl (θ.2.1 8, 60, xQ f))) (hn13 : M2 (σ' 13 n) = some (metE θ (fun _ => false)))
    (ht10 : 0 ≤ t → M2 (σ 10 t) = some (.inr (xci w1 t, xTyG σ' w1 t (xL w t).length)))
    (hfr : ∀ (b : Nat) (e : va_E), M b = some e → b ≠ σ 0 0 → b ≠ σ 1 0 → (0 ≤ t → b ≠ σ 10 t) → M2 b = some e)
    (hf : xFr σ w (xL w) (σ' 10 n) ∧ xFr σ w (xL w) (σ' 11 n) ∧ xFr σ w (xL w) (σ' 12 n) ∧ xFr σ w (xL w) (σ' 13 n))
    (hd : σ' 10 n ≠ σ' 11 n ∧ σ' 10 n ≠ σ' 12 n ∧ σ' 10 n ≠ σ' 13 n ∧ σ' 11 n ≠ σ' 12 n ∧ σ' 11 n ≠ σ' 13 n ∧ σ' 12 n ≠ σ' 13 n) : xM θ σ' w1 (lUp (xL w) n []) M2 := by
  have hB := hs.S.B
  have hB1 := hB.1
  have e28 : ∀ x : Int, 0 ≤ x → x < w 27 0 → w 28 x ≠ n := fun x a b => by have := (hs.S.X a b).1; omega
  have lv : ∀ (k : Nat) (i : Int), xLv w1 (lUp (xL w) n []) k i → ¬ (i = n ∧ (k = 10 ∨ k = 11 ∨ k = 12 ∨ k = 13)) → xLv w (xL w) k i := fun k i h p => by
    unfold xLv xHasBody xHasRow hasB at *
    simp only [c0, wb 11 _ (by decide) (by decide) (by decide) (by decide), wb 27 _ (by decide) (by decide) (by decide) (by decide), wb 29 _ (by decide) (by decide) (by decide) (by decide), wb 16 _ (by decide) (by decide) (by decide) (by decide), wb 15 _ (by decide) (by decide) (by decide) (by decide), wb 13 _ (by decide) (by decide) (by decide) (by decide), wb 28 _ (by decide) (by decide) (by decide) (by decide)] at h
    rcases h with h | h | h | h | h | h | h | h | h | h
    · exact Or.inl h
    · exact Or.inr (Or.inl ⟨h.1, h.2.1, by omega⟩)
    · exact Or.inr (Or.inr (Or.inl h))
    · exact Or.inr (Or.inr (Or.inr (Or.inl h)))
    · exact Or.inr (Or.inr (Or.inr (Or.inr (Or.inl h))))
    · exact Or.inr (Or.inr (Or.inr (Or.inr (Or.inr (Or.inl h)))))
    · exact Or.inr (Or.inr (Or.inr (Or.inr (Or.inr (Or.inr (Or.inl h))))))
    · exact Or.inr (Or.inr (Or.inr (Or.inr (Or.inr (Or.inr (Or.inr (Or.inl h)))))))
    · rw [lUp_n (e28 _ h.2.1 h.2.2.1)] at h; exact Or.inr (Or.inr (Or.inr (Or.inr (Or.inr (Or.inr (Or.inr (Or.inr (Or.inl h))))))))
    · exact Or.inr (Or.inr (Or.inr (Or.inr (Or.inr (Or.inr (Or.inr (Or.inr (Or.inr h))))))))
  have g0 : xLv w (xL w) 0 0 := Or.inl ⟨by decide, rfl⟩
  have g1 : xLv w (xL w) 1 0 := Or.inl ⟨by decide, rfl⟩
  have s10 : ∀ z : Int, z ≠ n → σ' 10 z = σ 10 z := fun z h => sσ _ _ (fun q => h q.1)
  have so : ∀ (k : Nat) (z : Int), k ≠ 10 → k ≠ 11 → k ≠ 12 → k ≠ 13 → σ' k z = σ k z := fun k z a b c d => sσ _ _ (fun q => by omega)
  refine hX.upd (fun k i => (k = 0 ∧ i = 0) ∨ (k = 1 ∧ i = 0) ∨ (0 ≤ t ∧ k = 10 ∧ i = t) ∨ (i = n ∧ (k = 10 ∨ k = 11 ∨ k = 12 ∨ k = 13))) (fun k i h p => ?_) (fun k i h p => ?_) (fun k i k' j h p h' e => ?_)
  · rw [not_or, not_or, not_or] at p
    obtain ⟨p0, p1, p2, p3⟩ := p
    have hl := lv k i h p3
    refine ⟨hl, sσ k i p3, ?_, fun e h9 => ?_⟩
    · obtain ⟨e, a1, a2⟩ := hX.2 k i hl
      rw [a1]
      refine hfr _ _ a1 (fun z => p0 ?_) (fun z => p1 ?_) (fun h0t z => p2 ?_)
      · exact hX.1 _ _ _ _ hl g0 z
      · exact hX.1 _ _ _ _ hl g1 z
      · exact ⟨h0t, hX.1 _ _ _ _ hl (lvT (Or.inl rfl) h0t (by omega)) z⟩
    · rcases xLv_k h with rfl | rfl | rfl | rfl | rfl | rfl | rfl | rfl | rfl | rfl | rfl | rfl | rfl | rfl | rfl | rfl | rfl | rfl | rfl | rfl
      · exfalso; unfold xLv at hl; omega
      · exfalso; unfold xLv at hl; omega
      · obtain ⟨f, a, b⟩ := h9
        exact ⟨f, a, fun j hj => by rw [so 20 _ (by decide) (by decide) (by decide) (by decide)]; exact b j (by rw [wb 11 _ (by decide) (by decide) (by decide) (by decide)] at hj; exact hj)⟩
      · obtain ⟨f, a, b⟩ := h9
        exact ⟨f, a, fun j hj => by rw [so 30 _ (by decide) (by decide) (by decide) (by decide)]; exact b j (by rw [wb 27 _ (by decide) (by decide) (by decide) (by decide)] at hj; exact hj)⟩
      · obtain ⟨f, a, b⟩ := h9
        exact ⟨f, a, fun j hj => by rw [so 40 _ (by decide) (by decide) (by decide) (by decide)]; exact b j hj⟩
      · exact (show e = _ from h9).trans (by rw [wb 35 _ (by decide) (by decide) (by decide) (by decide)])
      · exact (show e = _ from h9).trans (by rw [wb 36 _ (by decide) (by decide) (by decide) (by decide)])
      · have hi : 0 ≤ i ∧ i < w 0 0 := by unfold xLv at hl; omega
        obtain ⟨T1, T2, T3, T4, T5, T6, T7, T8⟩ := hs.S.T hi.1 hi.2
        have q : ∀ k : Nat, 1 ≤ k → k ≤ 6 → w1 k i = w k i := fun k a b => wa k i (by omega) (by omega) (by omega) (by omega) (by omega) (fun z => p2 ⟨by omega, rfl, z.2⟩)
        refine (show e = _ from h9).trans ?_
        rw [lUp_n (by omega), xci_eq (q 1 (by decide) (by decide)), xTyG_eq q (sσ _ _ (by omega)) (sσ _ _ (by omega)) (sσ _ _ (by omega)) (s10 8 (by omega)) (fun _ => s10 _ (by omega)) (fun _ => s10 _ (by omega)) (fun _ => s10 _ (by omega))]
      · have hi : 0 ≤ i ∧ i < w 0 0 := by unfold xLv at hl; omega
        obtain ⟨T1, T2, T3, T4, T5, T6, T7, T8⟩ := hs.S.T hi.1 hi.2
        obtain ⟨f, a, b⟩ := h9
        refine ⟨f, a, fun j hj => ?_⟩
        rw [wa 6 i (by decide) (by decide) (by decide) (by decide) (by omega) (fun z => by omega)] at hj
        have t7 := T3 j (by omega) hj
        rw [wb 7 _ (by decide) (by decide) (by decide) (by decide), s10 _ (by omega)]; exact b j hj
      · have hi : 0 ≤ i ∧ i < w 0 0 := by unfold xLv at hl; omega
        obtain ⟨f, a, b⟩ := h9
        refine ⟨f, a, fun j z hj => ?_⟩
        rw [lUp_n (by omega)] at hj
        have hz : z < w 0 0 := by
          have hm := List.mem_of_getElem? hj
          by_cases h8 : i < 8
          · rw [xL_0 h8] at hm; simp at hm; omega
          · rw [xL_8 (by omega)] at hm; exact (anc_r hs (by omega) hi.2 hm).2
        rw [s10 _ (by omega)]; exact b j z hj
      · have hi : 0 ≤ i ∧ i < w 0 0 := by unfold xLv at hl; omega
        obtain ⟨f, a, b⟩ := h9
        refine ⟨f, a, fun j hj => ?_⟩
        rw [lUp_n (by omega)]; exact b j hj
      · have hi : 0 ≤ i ∧ i < w 11 0 := by unfold xLv at hl; omega
        obtain ⟨m1, m2, m3, m4⟩ := hs.S.M hi.1 hi.2
        refine (show e = _ from h9).trans (congrArg (fun z9 => (Sum.inr (9, z9) : va_E)) ?_)
        unfold xMem xHasBody xHasRow hasB mb
        rw [wb 13 _ (by decide) (by decide) (by decide) (by decide), wb 14 _ (by decide) (by decide) (by decide) (by decide), wb 15 _ (by decide) (by decide) (by decide) (by decide), wb 16 _ (by decide) (by decide) (by decide) (by decide), wb 17 _ (by decide) (by decide) (by decide) (by decide), wb 18 _ (by decide) (by decide) (by decide) (by decide), wb 20 _ (by decide) (by decide) (by decide) (by decide), wb 21 _ (by decide) (by decide) (by decide) (by decide), s10 _ (by omega), so 21 _ (by decide) (by decide) (by decide) (by decide), so 22 _ (by decide) (by decide) (by decide) (by decide), so 23 _ (by decide) (by decide) (by decide) (by decide), xo_eq (σ := σ) (σ' := σ') (fun _ => s10 _ (by omega))]
      · have hi : 0 ≤ i ∧ i < w 11 0 := by unfold xLv at hl; omega
        obtain ⟨m1, m2, m3, m4⟩ := hs.S.M hi.1 hi.2
        obtain ⟨f, a, b⟩ := h9
        refine ⟨f, a, fun j hj => ?_⟩
        rw [wb 18 _ (by decide) (by decide) (by decide) (by decide)] at hj
        have t19 := m4 j (by omega) hj
        rw [wb 19 _ (by decide) (by decide) (by decide) (by decide), s10 _ (by omega)]; exact b j hj
      · exact (show e = _ from h9).trans (xBody_eq (σ := σ) (σ' := σ') (w := w) (w' := w1) (fun k a b => wb k i (by omega) (by omega) (by omega) (by omega)) (fun z => so 0 z (by decide) (by decide) (by decide) (by decide)) (fun z => so 20 z (by decide) (by decide) (by decide) (by decide))).symm
      · have hi : 0 ≤ i ∧ i < w 11 0 := by unfold xLv at hl; omega
        obtain ⟨m1, m2, m3, m4⟩ := hs.S.M hi.1 hi.2
        show xRow θ σ' w1 (w1 17 i) 1 (fun _ => w1 26 i) e
        rw [wb 17 _ (by decide) (by decide) (by decide) (by decide), wb 26 _ (by decide) (by decide) (by decide) (by decide)]
        exact xRow_eq (wa 1 _ (by decide) (by decide) (by decide) (by decide) (by omega) (fun z => by omega)) (fun _ _ => rfl) (fun _ _ _ _ => so 30 _ (by decide) (by decide) (by decide) (by decide)) h9
      · have hi : 0 ≤ i ∧ i < w 27 0 := by unfold xLv at hl; omega
        obtain ⟨x1, x2, x3⟩ := hs.S.X hi.1 hi.2
        refine (show e = _ from h9).trans ?_
        rw [wb 29 _ (by decide) (by decide) (by decide) (by decide), wb 28 _ (by decide) (by decide) (by decide) (by decide), s10 _ (by omega), so 31 _ (by decide) (by decide) (by decide) (by decide), so 32 _ (by decide) (by decide) (by decide) (by decide)]
      · have hi : 0 ≤ i ∧ i < w 27 0 := by unfold xLv at hl; omega
        obtain ⟨f, a, b⟩ := h9
        refine ⟨f, a, fun j a1 a2 a3 a4 => ?_⟩
        rw [wb 11 _ (by decide) (by decide) (by decide) (by decide)] at a1
        rw [wb 16 _ (by decide) (by decide) (by decide) (by decide)] at a2
        unfold hasB at a3
        rw [wb 15 _ (by decide) (by decide) (by decide) (by decide)] at a3
        rw [wb 13 _ (by decide) (by decide) (by decide) (by decide), wb 28 _ (by decide) (by decide) (by decide) (by decide), lUp_n (e28 i hi.1 hi.2)] at a4
        rw [so 33 _ (by decide) (by decide) (by decide) (by decide)]; exact b j a1 a2 a3 a4
      · have hi : 0 ≤ i ∧ i < w 27 0 := by unfold xLv at hl; omega
        obtain ⟨x1, x2, x3⟩ := hs.S.X hi.1 hi.2
        obtain ⟨T1, T2, T3, T4, T5, T6, T7, T8⟩ := hs.S.T (t := w 28 i) (by omega) (by omega)
        show xRow θ σ' w1 (w1 4 (w1 28 i)) (w1 29 i).toNat (fun j => w1 31 (20 * i + j)) e
        rw [wb 28 _ (by decide) (by decide) (by decide) (by decide), wb 29 _ (by decide) (by decide) (by decide) (by decide), wa 4 _ (by decide) (by decide) (by decide) (by decide) (by omega) (fun z => by omega)]
        exact xRow_eq (wa 1 _ (by decide) (by decide) (by decide) (by decide) (by omega) (fun z => by omega)) (fun j _ => wb 31 _ (by decide) (by decide) (by decide) (by decide)) (fun _ _ _ _ => so 30 _ (by decide) (by decide) (by decide) (by decide)) h9
      · have hi : 0 ≤ i % 100 ∧ i % 100 < w 11 0 := by unfold xLv at hl; omega
        obtain ⟨m1, m2, m3, m4⟩ := hs.S.M hi.1 hi.2
        show xRow θ σ' w1 (w1 17 (i % 100)) 1 (fun _ => w1 30 i) e
        rw [wb 17 _ (by decide) (by decide) (by decide) (by decide), wb 30 _ (by decide) (by decide) (by decide) (by decide)]
        exact xRow_eq (wa 1 _ (by decide) (by decide) (by decide) (by decide) (by omega) (fun z => by omega)) (fun _ _ => rfl) (fun _ _ _ _ => so 30 _ (by decide) (by decide) (by decide) (by decide)) h9
      · refine (show e = _ from h9).trans ?_
        rw [wb 32 _ (by decide) (by decide) (by decide) (by decide), wb 33 _ (by decide) (by decide) (by decide) (by decide), xo_eq (σ := σ) (σ' := σ') (fun _ => so 30 _ (by decide) (by decide) (by decide) (by decide))]
  · rcases p with ⟨rfl, rfl⟩ | ⟨rfl, rfl⟩ | ⟨h0t, rfl, rfl⟩ | ⟨rfl, rfl | rfl | rfl | rfl⟩
    · refine ⟨_, by rw [so 0 _ (by decide) (by decide) (by decide) (by decide)]; exact h0, ?_⟩
      show _ = _
      have hC := hs.S.C
      rw [so 1 _ (by decide) (by decide) (by decide) (by decide), so 2 _ (by decide) (by decide) (by decide) (by decide), so 3 _ (by decide) (by decide) (by decide) (by decide), so 4 _ (by decide) (by decide) (by decide) (by decide), so 5 _ (by decide) (by decide) (by decide) (by decide), so 6 _ (by decide) (by decide) (by decide) (by decide), c0, wb 11 _ (by decide) (by decide) (by decide) (by decide), wb 12 _ (by decide) (by decide) (by decide) (by decide), wb 27 _ (by decide) (by decide) (by decide) (by decide), wb 34 _ (by decide) (by decide) (by decide) (by decide), wb 37 _ (by decide) (by decide) (by decide) (by decide), wb 38 _ (by decide) (by decide) (by decide) (by decide), wb 39 _ (by decide) (by decide) (by decide) (by decide), s10 _ (by omega)]
    · obtain ⟨f, a, b⟩ := h1
      refine ⟨_, by rw [so 1 _ (by decide) (by decide) (by decide) (by decide)]; exact a, f, rfl, fun j hj => b j (by omega)⟩
    · refine ⟨_, by rw [s10 _ (by omega)]; exact ht10 h0t, ?_⟩
      show _ = _
      rw [lUp_n (by omega)]
    · refine ⟨_, hn10, ?_⟩
      show _ = _
      rw [lUp_s]; rfl
    · obtain ⟨f, a⟩ := hn11
      exact ⟨_, a, f, rfl, fun j hj => by rw [h6] at hj; omega⟩
    · obtain ⟨f, a⟩ := hn12
      exact ⟨_, a, f, rfl, fun j z hj => by rw [lUp_s] at hj; simp at hj⟩
    · exact ⟨_, hn13, _, rfl, fun j hj => by rw [lUp_s]; simp⟩
  · have key : ∀ (k9 : Nat) (j9 : Int), xLv w1 (lUp (xL w) n []) k9 j9 → ¬ (j9 = n ∧ (k9 = 10 ∨ k9 = 11 ∨ k9 = 12 ∨ k9 = 13)) → σ' k9 j9 = σ k9 j9 ∧ xLv w (xL w) k9 j9 := fun k9 j9 a b => ⟨sσ _ _ b, lv _ _ a b⟩
    by_cases q : i = n ∧ (k = 10 ∨ k = 11 ∨ k = 12 ∨ k = 13)
    · obtain ⟨rfl, q⟩ := q
      by_cases q' : j = i ∧ (k' = 10 ∨ k' = 11 ∨ k' = 12 ∨ k' = 13)
      · obtain ⟨rfl, q'⟩ := q'
        refine ⟨?_, rfl⟩
        rcases q with rfl | rfl | rfl | rfl <;> rcases q' with rfl | rfl | rfl | rfl <;> first | rfl | (exfalso; first | exact hd.1 e | exact hd.2.1 e | exact hd.2.2.1 e | exact hd.2.2.2.1 e | exact hd.2.2.2.2.1 e | exact hd.2.2.2.2.2 e | exact hd.1 e.symm | exact hd.2.1 e.symm | exact hd.2.2.1 e.symm | exact hd.2.2.2.1 e.symm | exact hd.2.2.2.2.1 e.symm | exact hd.2.2.2.2.2 e.symm)
      · obtain ⟨a1, a2⟩ := key k' j h' q'
        rw [a1] at e
        exfalso
        rcases q with rfl | rfl | rfl | rfl
        · exact hf.1 _ _ a2 e.symm
        · exact hf.2.1 _ _ a2 e.symm
        · exact hf.2.2.1 _ _ a2 e.symm
        · exact hf.2.2.2 _ _ a2 e.symm
    · obtain ⟨b1, b2⟩ := key k i h q
      by_cases q' : j = n ∧ (k' = 10 ∨ k' = 11 ∨ k' = 12 ∨ k' = 13)
      · obtain ⟨rfl, q'⟩ := q'
        rw [b1] at e
        exfalso
        rcases q' with rfl | rfl | rfl | rfl
        · exact hf.1 _ _ b2 e
        · exact hf.2.1 _ _ b2 e
        · exact hf.2.2.1 _ _ b2 e
        · exact hf.2.2.2 _ _ b2 e
      · obtain ⟨a1, a2⟩ := key k' j h' q'
        rw [b1, a1] at e
        exact hX.1 _ _ _ _ b2 a2 e
end XNEW
theorem xM_Lf {θ : zTh} {σ : xA} {w : mW} {Lf Lf' : Int → List Int} {M : zMap} (hs : xS w) (h : xM θ σ w Lf M) (e : ∀ t : Int, 0 ≤ t → t < w 0 0 → Lf' t = Lf t) : xM θ σ w Lf' M := by
  have hl : ∀ (k : Nat) (i : Int), xLv w Lf' k i → xLv w Lf k i := fun k i hh => by
    unfold xLv at *
    rcases hh with hh | hh | hh | hh | hh | hh | hh | hh | hh | hh
    · exact Or.inl hh
    · exact Or.inr (Or.inl hh)
    · exact Or.inr (Or.inr (Or.inl hh))
    · exact Or.inr (Or.inr (Or.inr (Or.inl hh)))
    · exact Or.inr (Or.inr (Or.inr (Or.inr (Or.inl hh))))
    · exact Or.inr (Or.inr (Or.inr (Or.inr (Or.inr (Or.inl hh)))))
    · exact Or.inr (Or.inr (Or.inr (Or.inr (Or.inr (Or.inr (Or.inl hh))))))
    · exact Or.inr (Or.inr (Or.inr (Or.inr (Or.inr (Or.inr (Or.inr (Or.inl hh)))))))
    · have x1 := (hs.S.X hh.2.1 hh.2.2.1).1
      rw [e _ (by omega) (by omega)] at hh; exact Or.inr (Or.inr (Or.inr (Or.inr (Or.inr (Or.inr (Or.inr (Or.inr (Or.inl hh))))))))
    · exact Or.inr (Or.inr (Or.inr (Or.inr (Or.inr (Or.inr (Or.inr (Or.inr (Or.inr hh))))))))
  refine h.upd (fun _ _ => False) (fun k i hh _ => ⟨hl k i hh, rfl, rfl, fun e9 h9 => ?_⟩) (fun _ _ _ p => p.elim) (fun _ _ _ _ _ p => p.elim)
  have hk := hl k i hh
  rcases xLv_k hh with rfl | rfl | rfl | rfl | rfl | rfl | rfl | rfl | rfl | rfl | rfl | rfl | rfl | rfl | rfl | rfl | rfl | rfl | rfl | rfl
  case inr.inr.inr.inr.inr.inr.inr.inl =>
    have hi : 0 ≤ i ∧ i < w 0 0 := by unfold xLv at hk; omega
    show e9 = _
    rw [e i hi.1 hi.2]; exact h9
  case inr.inr.inr.inr.inr.inr.inr.inr.inr.inl =>
    have hi : 0 ≤ i ∧ i < w 0 0 := by unfold xLv at hk; omega
    show ∃ f, _
    rw [e i hi.1 hi.2]; exact h9
  case inr.inr.inr.inr.inr.inr.inr.inr.inr.inr.inl =>
    have hi : 0 ≤ i ∧ i < w 0 0 := by unfold xLv at hk; omega
    show ∃ f, _
    rw [e i hi.1 hi.2]; exact h9
  case inr.inr.inr.inr.inr.inr.inr.inr.inr.inr.inr.inr.inr.inr.inr.inr.inl =>
    have hi : 0 ≤ i ∧ i < w 27 0 := by unfold xLv at hk; omega
    have x1 := (hs.S.X hi.1 hi.2).1
    show ∃ f, _
    rw [e _ (by omega) (by omega)]; exact h9
  all_goals exact h9
def xLk (w : mW) (Lf : Int → List Int) (k : Int) : Int → List Int := fun x => if x < k then xL w x else Lf x
theorem xLk_y {w : mW} {Lf : Int → List Int} {k x : Int} (h : x < k) : xLk w Lf k x = xL w x := if_pos h
theorem xL_rg {w : mW} (hs : xS w) {x : Int} (h0 : 0 ≤ x) (h1 : x < w 0 0) : rgL (w 0 0) (xL w x) := by
  have hB := hs.S.B.1
  by_cases h8 : x < 8
  · rw [xL_0 h8, ← adL_nil]; exact rg_one ⟨h0, h1⟩
  · rw [xL_8 (by omega)]; exact ancL_rg hs.BT (by omega) h0 h1
theorem xL_m8 {w : mW} (hs : xS w) {x : Int} (h0 : 8 ≤ x) (h1 : x < w 0 0) : 8 ∈ xL w x := by
  rw [xL_8 h0, ancL_eq hs.BT (by omega) h1, mem_ancS h0]; exact Or.inr (Or.inl rfl)
theorem clL_eq {w : mW} (hs : xS w) {Lf : Int → List Int} {k : Int} (h0 : 0 ≤ k) (h1 : k < w 0 0) (h : ∀ x : Int, 8 ≤ x → x < k → Lf x = xL w x) : clL w Lf k = xL w k := by
  unfold clL
  by_cases h8 : k < 8
  · rw [if_pos h8, xL_0 h8]
  · rw [if_neg h8, xL_8 (by omega), ancL_eq hs.BT h0 h1]
    exact ancS_congr hs.BT h0 h1 (fun x a b => by rw [h x a b, xL_8 a])
theorem xLk_s {w : mW} (hs : xS w) {Lf : Int → List Int} {k : Int} (h0 : 0 ≤ k) (h1 : k < w 0 0) : lUp (xLk w Lf k) k (clL w (xLk w Lf k) k) = xLk w Lf (k + 1) := by
  rw [clL_eq hs h0 h1 (fun x _ b => xLk_y b)]
  funext x; unfold lUp xLk
  by_cases e : x = k
  · rw [if_pos e, if_pos (by omega), e]
  · rw [if_neg e]
    by_cases e2 : x < k
    · rw [if_pos e2, if_pos (by omega)]
    · rw [if_neg e2, if_neg (by omega)]

section XV
variable {κ : zK} {own nm : String} {cc : ByteArray} {nL : Nat} {ret : Option FieldType} {rm : Room} {P : Option Value → (Heap → Prop) → Prop} {n k pc : Nat} {lv : List (Nat × Value)} {st rest : List Value}
variable {θ : zTh} {l : Launch} {σ : xA} {w : mW} {Lf : Int → List Int} {M N : zMap} {index : Nat}
theorem xv_climb (C : ZC κ own nm cc nL ret rm P) (hκ : κ.1 = θ) (hκl : κ.2.2.1 = l) (hX : xM θ σ w Lf M) (hs : xS w) (hw : mWF w) (hT : zTb θ) (t : Int) (ht : 0 ≤ t ∧ t < w 0 0) (hno : ∀ x : Int, 0 ≤ x → x < w 27 0 → w 28 x ≠ t) (hLf : ∀ x : Int, 0 ≤ x → x < t → rgL (w 0 0) (Lf x)) (h8L : ∀ x : Int, 8 ≤ x → x < t → 8 ∈ Lf x) (q : Nat) (d : decode cc pc = .ok (.invokevirtual index, 3)) (hl : Cond.methodLink own index (⟨"ReflectMirror$Type", "climb", "(LReflectMirror$Type;)V"⟩ : MethodName) ∈ lw_all) (hf : 3 ≤ rm.frames) (hlo : 66 ≤ rm.locals) (hce : n ≤ rm.cells) (hsl : k ≤ rm.slots) (hsz : (rest.map fun v => v.category).sum ≤ 8) (hq : pc + 3 = q) (kk : ∀ M' : zMap, xM θ σ w (lUp Lf t (clL w Lf t)) M' → Z κ (zP θ M' N) n k q lv rest) : Z κ (zP θ M N) n k pc lv (.ref (σ 10 8) :: .ref (σ 10 t) :: rest) := by
  rcases hs.cls ht.1 ht.2 with ⟨e1, e2, e3⟩ | ⟨e1, e2, e3⟩ | ⟨e1, e2, e3⟩ | ⟨e1, e2, e3⟩
  · refine z_callU (owner := RX2) (As := [.ref (σ 10 8)]) (rest := rest) C hκ hκl q (k2_climb hX hs hw hT t 8 ht hno) d hl q268 q316 q267 q92 q274 rfl ⟨by decide, by decide, rfl⟩ (Nat.le_trans (Nat.le_of_ble_eq_true rfl) hf) (Nat.le_trans (Nat.le_of_ble_eq_true rfl) hlo) hce hsl (zrec_P (xM.ty3 hX ht.1 ht.2 (by omega))) rfl rfl hsz hq (fun v9 Q9 h9 => ?_)
    obtain ⟨rfl, M9, rfl, hX9⟩ := h9
    rw [clL_p e1] at hX9
    exact kk M9 hX9
  · refine z_callO (owner := RX2) (As := [.ref (σ 10 8)]) (rest := rest) C hκ hκl q (k4_climb hX hs hw hT t ht hno (by omega) hLf h8L) d hl q268 q267 q274 q269 q270 q94 q271 ⟨by decide, by decide, rfl⟩ (Nat.le_trans (Nat.le_of_ble_eq_true rfl) hf) (Nat.le_trans (Nat.le_of_ble_eq_true rfl) hlo) hce hsl (zrec_P (xM.ty4 hX ht.1 ht.2 (by omega))) rfl rfl hsz hq (fun v9 Q9 h9 => ?_)
    obtain ⟨rfl, M9, rfl, hX9⟩ := h9
    rw [clL_f e1 (by unfold clT; simp; omega)] at hX9
    exact kk M9 hX9
  · refine z_callO (owner := RX2) (As := [.ref (σ 10 8)]) (rest := rest) C hκ hκl q (k5_climb hX hs hw hT t ht hno (by omega) hLf h8L) d hl q268 q267 q274 q303 q304 q95 q305 ⟨by decide, by decide, rfl⟩ (Nat.le_trans (Nat.le_of_ble_eq_true rfl) hf) (Nat.le_trans (Nat.le_of_ble_eq_true rfl) hlo) hce hsl (zrec_P (xM.ty5 hX ht.1 ht.2 (by omega))) rfl rfl hsz hq (fun v9 Q9 h9 => ?_)
    obtain ⟨rfl, M9, rfl, hX9⟩ := h9
    rw [clL_c hs e1 ht.2 (by unfold clT; simp; omega) h8L] at hX9
    exact kk M9 hX9
  · refine z_callO (owner := RX2) (As := [.ref (σ 10 8)]) (rest := rest) C hκ hκl q (k8_climb hX hs hw hT t ht hno (by omega)) d hl q268 q267 q274 q317 q318 q98 q319 ⟨by decide, by decide, rfl⟩ (Nat.le_trans (Nat.le_of_ble_eq_true rfl) hf) (Nat.le_trans (Nat.le_of_ble_eq_true rfl) hlo) hce hsl (zrec_P (xM.ty8 hX ht.1 ht.2 (by omega))) rfl rfl hsz hq (fun v9 Q9 h9 => ?_)
    obtain ⟨rfl, M9, rfl, hX9⟩ := h9
    rw [clL_r e1 (by unfold clT; simp; omega) ((hs.ty ht.1 ht.2).2.1 e2).2] at hX9
    exact kk M9 hX9
end XV
set_option maxRecDepth 100000 in
theorem k0_climb {l : Launch} {θ : zTh} {σ : xA} {w : mW} {Lf : Int → List Int} {M N : zMap} (hX : xM θ σ w (Lf) M) (hs : xS w) (hw : mWF w) (hT : zTb θ)   (h27 : w 27 0 = 0) : ZM θ l yX0_climb cX0_climb 2 none ⟨3, 0, 0, 66⟩ [.ref (σ 0 (0))] (zP θ M N) (fun v9 Q9 => v9 = none ∧ ∃ M' : zMap, Q9 = zP θ M' N ∧ xM θ σ w (xL w) M') := by
  refine z_start (own := RX0) (nm := "climb") pnX0 rfl rfl (Nat.le_of_ble_eq_true rfl) ?_
  intro κ hκ hκl C
  change Z κ (zP θ M N) 0 0 0 [(0, .ref (σ 0 (0)))] []
  have hS := hs.S
  have hB := hS.B
  obtain ⟨hB1, hB2, hB3, hB4, hB5, hB6⟩ := hS.B
  have hC := hS.C
  obtain ⟨h81, h82⟩ := hs.r8
  refine z_iconst C 1 dX0_climb_0 rfl ?_
  refine z_istore_n (lv' := [(0, .ref (σ 0 (0))), (1, .int (iI (0)))]) C 2 [1, 0] dX0_climb_1 (by decide) rfl rfl ?_
  have L2_1 : ∀ (fu : Nat) (k : Nat) (M9 : zMap) (hk : (k : Int) ≤ w 0 0) (hX9 : xM θ σ w (xLk w Lf ((k : Int))) M9) (hme : (w 0 0).toNat - k < fu), Z κ (zP θ M9 N) 0 0 2 [(0, .ref (σ 0 (0))), (1, .int (iI ((k : Int))))] [] := by
    intro fu
    induction fu with
    | zero => intro k M9 hk hX9 hme; exact absurd hme (Nat.not_lt_zero _)
    | succ fu ih2 =>
      intro k M9 hk hX9 hme
      refine z_iload_n C 3 1 dX0_climb_2 rfl rfl ?_
      refine z_aload_n C 4 0 dX0_climb_3 rfl rfl ?_
      refine z_getf C hκ (v := .int (iI (w 0 0))) 7 1 zk_X0 hX9.o (by decide) q328 (Or.inl rfl) rfl dX0_climb_4 rfl ?_
      refine z_icmp_ge C 32 10 dX0_climb_7 (by decide) ⟨by omega, by omega⟩ ⟨by omega, by omega⟩ rfl (fun c3 => ?_) (fun c3 => ?_)
      · skip
        exact z_vret C dX0_climb_32 (Nat.le_of_ble_eq_true rfl) (Nat.le_of_ble_eq_true rfl) ⟨rfl, M9, rfl, xM_Lf hs hX9 (fun t a b => (xLk_y (by omega)).symm)⟩
      · skip
        refine z_aload_n C 11 0 dX0_climb_10 rfl rfl ?_
        refine z_getf C hκ (v := .ref (σ 1 (0))) 14 0 zk_X0 hX9.o (by decide) q325 (Or.inl rfl) rfl dX0_climb_11 rfl ?_
        refine z_iload_n C 15 1 dX0_climb_14 rfl rfl ?_
        refine x_aT C hκ 16 hX9 hs (by omega) (by omega) dX0_climb_15 rfl ?_
        obtain ⟨f4a, f4b, f4c, f4d, f4e, f4f, f4g, f4h⟩ := hS.T (show 0 ≤ (k : Int) by omega) (by omega)
        obtain ⟨f4i, f4j, f4k, f4l⟩ := hs.ty (show 0 ≤ (k : Int) by omega) (by omega)
        refine z_aload_n C 17 0 dX0_climb_16 rfl rfl ?_
        refine z_getf C hκ (v := .ref (σ 1 (0))) 20 0 zk_X0 hX9.o (by decide) q325 (Or.inl rfl) rfl dX0_climb_17 rfl ?_
        refine z_bipush C 22 dX0_climb_20 (by decide) rfl ?_
        refine x_aT C hκ 23 hX9 hs (by decide) (by omega) dX0_climb_22 rfl ?_
        obtain ⟨f5a, f5b, f5c, f5d, f5e, f5f, f5g, f5h⟩ := hS.T (show 0 ≤ 8 by decide) (by omega)
        obtain ⟨f5i, f5j, f5k, f5l⟩ := hs.ty (show 0 ≤ 8 by decide) (by omega)
        refine xv_climb (rest := []) C hκ hκl hX9 hs hw hT ((k : Int)) ⟨by omega, by omega⟩ (fun x a b => by omega) (fun x a b => by rw [xLk_y b]; exact xL_rg hs a (by omega)) (fun x a b => by rw [xLk_y b]; exact xL_m8 hs a (by omega)) 26 dX0_climb_23 q266 (Nat.le_of_ble_eq_true rfl) (Nat.le_of_ble_eq_true rfl) (Nat.le_of_ble_eq_true rfl) (Nat.le_of_ble_eq_true rfl) (Nat.le_of_ble_eq_true rfl) rfl (fun Mr6 hXr6 => ?_)
        rw [xLk_s hs (show 0 ≤ (k : Int) by omega) (by omega)] at hXr6
        refine z_iinc (lv' := [(0, .ref (σ 0 (0))), (1, .int (iI (((k : Int)) + 1)))]) C 29 1 [1, 0] dX0_climb_26 rfl (by decide) rfl rfl ?_
        refine z_goto C 2 dX0_climb_29 (by decide) ?_
        refine z_as (lv' := [(0, .ref (σ 0 (0))), (1, .int (iI (((k + 1) : Int))))]) rfl rfl rfl ?_
        exact ih2 (k + 1) (Mr6) (by omega) hXr6 (by omega)
  refine z_as (lv' := [(0, .ref (σ 0 (0))), (1, .int (iI (((0) : Int))))]) rfl rfl rfl ?_
  exact L2_1 _ (0) (M) (by omega) (xM_Lf hs hX (fun t a b => if_neg (show ¬ t < ((0 : Nat) : Int) by omega))) (Nat.lt_succ_self _)
