/-! ===== the Model's numbers and the class's ===== -/
def sW (w w' : mW) : Prop := ∀ (k : Nat) (i : Int), k ≠ 26 → k ≠ 30 → k ≠ 31 → k < 35 → w' k i = w k i
theorem sW.rf {w : mW} : sW w w := fun _ _ _ _ _ _ => rfl
theorem sW.tr {w w' w2 : mW} (h : sW w w') (h2 : sW w' w2) : sW w w2 := fun k i a b c d => (h2 k i a b c d).trans (h k i a b c d)
theorem sW.sm {w w' : mW} (h : sW w w') : sW w' w := fun k i a b c d => (h k i a b c d).symm
theorem isaF_W (w : mW) : ∀ n : Nat, isaF (nrmV w) n = isaF w n
  | 0 => rfl
  | n + 1 => by
    funext t b
    show isaS (nrmV w) (isaF (nrmV w) n) t b = isaS w (isaF w n) t b
    rw [isaF_W w n]
    rfl
theorem ancF_W (w : mW) (n : Nat) (t : Int) : ancF (nrmV w) n t = ancF w n t := ancF_eq (w := w) (w' := nrmV w) (fun _ => rfl) (fun _ => rfl) (fun _ => rfl) (fun _ => rfl) n t
theorem xLay_W (w : mW) : xLay (nrmV w) = xLay w := by
  unfold xLay isaL ancL
  simp only [isaF_W, ancF_W]
  rfl
theorem xS_nW (w : mW) : xS (nrmV w) = xS w := by
  show (xLay (nrmV w) ∧ _) = (xLay w ∧ _)
  rw [xLay_W]
  rfl
theorem xS_W {w w' : mW} (h : sW w w') (hs : xS w) : xS w' := by rw [V_of xS xS_nW h]; exact hs
theorem xL_W {w w' : mW} (h : sW w w') : xL w' = xL w := xL_eq (fun i => h _ i (by decide) (by decide) (by decide) (by decide)) (fun i => h _ i (by decide) (by decide) (by decide) (by decide)) (fun i => h _ i (by decide) (by decide) (by decide) (by decide)) (fun i => h _ i (by decide) (by decide) (by decide) (by decide))
theorem xFd_W {w w' : mW} (h : sW w w') (hs : xFd w) : xFd w' := by rw [V_of xFd (fun _ => rfl) h]; exact hs
abbrev xTh (w : mW) : Prop := ∀ x : Int, 0 ≤ x → x < w 27 0 → w 29 x = -1 → w 1 (w 28 x) ≠ 4
theorem xTh_W {w w' : mW} (h : sW w w') (hs : xTh w) : xTh w' := by rw [V_of xTh (fun _ => rfl) h]; exact hs
theorem xFr_W {σ : xA} {w w' : mW} (h : sW w w') {a : Nat} (hf : xFr σ w (xL w) a) : xFr σ w' (xL w') a := by
  rw [xL_W h]
  rw [V_of (fun w9 => xFr σ w9 (xL w) a) (fun _ => rfl) h]; exact hf
theorem sV.W {w w' : mW} (h : sV w w') : sW w w' := fun k i a b c d => h k i (by omega)
theorem sG.W {w w' : mW} (h : sG w w') : sW w w' := fun k i a b _ d => h k i a b d
/-- the same but for what the class does not hold -/
def s40 (w w' : mW) : Prop := ∀ (k : Nat) (i : Int), k < 40 → w' k i = w k i
def nr40 (w : mW) : mW := fun k i => if k < 40 then w k i else 0
theorem nr40_eq {w w' : mW} (h : s40 w w') : nr40 w' = nr40 w := by
  funext k i
  unfold nr40
  split
  · rename_i h1; exact h k i h1
  · rfl
theorem X40_of {α : Sort _} (F : mW → α) (hF : ∀ w, F (nr40 w) = F w) {w w' : mW} (h : s40 w w') : F w' = F w := by rw [← hF w', ← hF w, nr40_eq h]
theorem s40.W {w w' : mW} (h : s40 w w') : sW w w' := fun k i _ _ _ d => h k i (by omega)
theorem s40.sm {w w' : mW} (h : s40 w w') : s40 w' w := fun k i d => (h k i d).symm
theorem s40.tr {w w' w2 : mW} (h : s40 w w') (h2 : s40 w' w2) : s40 w w2 := fun k i d => (h2 k i d).trans (h k i d)
theorem xM_40 {θ : zTh} {σ : xA} {w w' : mW} {M : zMap} (h : s40 w w') (hX : xM θ σ w (xL w) M) : xM θ σ w' (xL w') M := by
  rw [xL_W h.W]
  rw [X40_of (fun w9 => xM θ σ w9 (xL w) M) (fun _ => rfl) h]; exact hX
/-! ===== a result, as the Model tells it ===== -/
/-- a method's result: of its type, a value -/
def xRs (σ : xA) (r v : Int) : List Value := if r = -1 then [.int (iI 4), .long (lI 0), .null] else [.int (iI (cK r)), .long (lI (cB r v)), va_rf (cT σ r v)]
theorem gv_rs {w : mW} {σ : xA} {r t u v : Int} (hr : -1 ≤ r) (ht : 0 ≤ t) (hu : cK u = cK t) (hu2 : t < 8 → u = t) (hg : r = -1 ∨ giB w t r = true) : [.int (iI (gvK r t (cK u))), .long (lI (gvB r t (cK u) (cB u v))), va_rf (gvT r t (cT σ u v))] = xRs σ r (if r = -1 then 0 else wdL v t r) := by
  unfold xRs
  by_cases h1 : r = -1
  · obtain ⟨g1, g2, g3⟩ := gv_c (r := r) (t := t) (k := cK u) (b := cB u v) (u := cT σ u v) (Or.inl h1)
    rw [g1, g2, g3, if_pos h1, h1]; rfl
  · obtain ⟨g1, g2, g3⟩ := gv_w (r := r) (t := t) (k := cK u) (b := cB u v) (u := cT σ u v) (by omega)
    rw [g1, g2, g3, if_neg h1, if_neg h1]
    have hg := hg.resolve_left h1
    rcases gi_c hg with ⟨p1, p2, p3⟩ | ⟨p1, p2, p3⟩
    · have e := hu2 p1
      subst e
      have hle : u ≤ r := by unfold wdB at p3; have := of_decide_eq_true p3; omega
      have k1 : cK u = u := if_pos p1
      have k2 : cB u v = v := if_pos p1
      have k3 : cT σ u v = none := if_pos p1
      have q1 : cK r = r := if_pos p2
      have q2 : cB r (wdL v u r) = wdL v u r := if_pos p2
      have q3 : cT σ r (wdL v u r) = none := if_pos p2
      rw [k1, k2, k3, q1, q2, q3]
      rw [show wtK u r = r from if_neg (by omega), show wtB u v r = wdC u v r from if_neg (by omega), wdC_eq (by omega) hle]
    · have hu8 : 8 ≤ u := by
        by_cases h9 : u < 8
        · have : cK u = u := if_pos h9
          have h8 : cK t = 8 := if_neg (by omega)
          omega
        · omega
      have hw : wdL v t r = v := by unfold wdL; rw [if_pos (by omega)]
      rw [hw]
      rw [show wtK (cK u) r = cK u from if_pos p2, show wtB (cK u) (cB u v) r = cB u v from if_pos p2]
      rw [show cK u = 8 from if_neg (by omega), show cB u v = 0 from if_neg (by omega), show cT σ u v = xo σ 30 v from if_neg (by omega), show cK r = 8 from if_neg (by omega), show cB r v = 0 from if_neg (by omega), show cT σ r v = xo σ 30 v from if_neg (by omega)]
theorem cl_rs {σ : xA} {r : Int} (hr : -1 ≤ r) : [.int (iI (clK r)), .long (lI 0), .null] = xRs σ r (if r = -1 then 0 else noneI r) := by
  unfold xRs
  by_cases h1 : r = -1
  · rw [if_pos h1, h1]; rfl
  · rw [if_neg h1, if_neg h1]
    by_cases h8 : 8 ≤ r
    · rw [show clK r = 8 by unfold clK; rw [if_neg (by omega), if_pos h8], show cK r = 8 from if_neg (by omega), show cB r (noneI r) = 0 from if_neg (by omega), show cT σ r (noneI r) = xo σ 30 (noneI r) from if_neg (by omega), show noneI r = -1 by unfold noneI; rw [if_pos h8], xo_n (by decide)]; rfl
    · rw [show clK r = r by unfold clK; rw [if_neg (by omega), if_neg (by omega)], show cK r = r from if_pos (by omega), show noneI r = 0 by unfold noneI; rw [if_neg h8], show cB r 0 = 0 from if_pos (by omega), show cT σ r 0 = none from if_pos (by omega)]; rfl
/-- above a class is its parent -/
theorem isa_par {w : mW} (hs : xS w) (hT : mTy w) {t : Int} (h0 : 0 ≤ t) (h1 : t < w 0 0) (h2 : w 2 t ≠ -1) (h3 : 0 ≤ w 2 t) : isa w t (w 2 t) = true := by
  have hlt := (hs.2.2.1 t h0 h1).1.2
  rw [(hs.1 t h0 h1).2 (w 2 t) h3 (by omega), isaL_eq hs.2.2.1 h0 h1]
  unfold isaS
  have h8 : ¬ t < 8 := fun h9 => by
    have := hT.2.2.2 t h0 h9
    exact h2 ((hs.ty h0 h1).1 (Or.inl this))
  rw [if_neg h8]
  rcases hs.cls h0 h1 with ⟨e1, _, e3⟩ | ⟨e1, e2, _⟩ | ⟨e1, e2, _⟩ | ⟨e1, e2, _⟩
  · omega
  · exact absurd ((hs.ty h0 h1).1 (Or.inr e2)) h2
  · have hcl : clT w t = true := by unfold clT; exact decide_eq_true e2
    have ht8 : t ≠ 8 := fun e => by rw [e] at h2; exact h2 hs.r8.2
    have hr : isaL w (w 2 t) (w 2 t) = true := by rw [← (hs.1 (w 2 t) h3 (by omega)).2 (w 2 t) h3 (by omega)]; exact hT.1 _ h3 (by omega)
    unfold is2S is1S
    rw [hcl, hr, decide_eq_true ht8]; simp
  · have e8 := ((hs.ty h0 h1).2.1 e2).1
    unfold is2S is1S basB
    rw [e8, decide_eq_true (show 8 ≤ t by omega)]; simp
theorem fsF_isa {w : mW} (hs : xS w) (hT : mTy w) {m t : Int} (h0 : 0 ≤ t) (h1 : t < w 0 0) : ∀ (n : Nat) (u : Int), -1 ≤ u → u < w 0 0 → (0 ≤ u → isa w t u = true) → fsF w m n u ≠ -1 → isa w t (w 13 (fsF w m n u)) = true
  | 0, u, _, _, _, h => absurd rfl h
  | n + 1, u, hu0, hu1, hi, h => by
    simp only [fsF] at h ⊢
    by_cases e1 : u = -1
    · rw [if_pos e1] at h; exact absurd rfl h
    · rw [if_neg e1] at h ⊢
      by_cases e2 : olI w u m ≠ -1 ∧ isK w m (olI w u m) = true
      · rw [if_pos e2] at h ⊢
        by_cases e3 : hasB w (olI w u m) 16 = true
        · rw [if_pos e3] at h; exact absurd rfl h
        · rw [if_neg e3, (olI_like e2.1).2.2]; exact hi (by omega)
      · rw [if_neg e2] at h ⊢
        have hb := (hs.2.2.1 u (by omega) hu1).1
        refine fsF_isa hs hT h0 h1 n (w 2 u) hb.1 (by omega) (fun h9 => ?_) h
        have hp := isa_par hs hT (t := u) (by omega) hu1 (by omega) h9
        exact hT.2.1 t u (w 2 u) h0 h1 (by omega) hu1 h9 (by omega) (hi (by omega)) hp

