/-! ===== values anew: what does not look at them ===== -/
/-- all but the values of fields, of items, of slots, the tallies and the cause -/
def nrv (w : mW) : mW := fun k i => if k = 26 ∨ k = 30 ∨ k = 31 ∨ (35 ≤ k ∧ k ≤ 44) then 0 else w k i
def sV (w w' : mW) : Prop := ∀ k i, ¬ (k = 26 ∨ k = 30 ∨ k = 31 ∨ (35 ≤ k ∧ k ≤ 44)) → w' k i = w k i
theorem nrv_eq {w w' : mW} (h : sV w w') : nrv w' = nrv w := by
  funext k i
  unfold nrv
  split
  · rfl
  · rename_i h1; exact h k i h1
theorem Vx_of {α : Sort _} (F : mW → α) (hF : ∀ w, F (nrv w) = F w) {w w' : mW} (h : sV w w') : F w' = F w := by rw [← hF w', ← hF w, nrv_eq h]
theorem isaF_V (w : mW) : ∀ n : Nat, isaF (nrv w) n = isaF w n
  | 0 => rfl
  | n + 1 => by
    funext t b
    show isaS (nrv w) (isaF (nrv w) n) t b = isaS w (isaF w n) t b
    rw [isaF_V w n]
    rfl
theorem ancF_V (w : mW) (n : Nat) (t : Int) : ancF (nrv w) n t = ancF w n t := ancF_eq (w := w) (w' := nrv w) (fun _ => rfl) (fun _ => rfl) (fun _ => rfl) (fun _ => rfl) n t
theorem xLay_V (w : mW) : xLay (nrv w) = xLay w := by
  unfold xLay isaL ancL
  simp only [isaF_V, ancF_V]
  rfl
theorem xS_nrv (w : mW) : xS (nrv w) = xS w := by
  show (xLay (nrv w) ∧ _) = (xLay w ∧ _)
  rw [xLay_V]
  rfl
theorem xS_V {w w' : mW} (h : sV w w') (hs : xS w) : xS w' := by rw [Vx_of xS xS_nrv h]; exact hs
theorem xL_V {w w' : mW} (h : sV w w') : xL w' = xL w := xL_eq (fun i => h _ i (by decide)) (fun i => h _ i (by decide)) (fun i => h _ i (by decide)) (fun i => h _ i (by decide))
theorem xFd_V {w w' : mW} (h : sV w w') (hs : xFd w) : xFd w' := by rw [Vx_of xFd (fun _ => rfl) h]; exact hs
theorem sV_31 {w : mW} {a v : Int} : sV w (mset w 31 a v) := fun k i h => mset_k (fun e => h (by omega))
theorem sV_30 {w : mW} {a v : Int} : sV w (mset w 30 a v) := fun k i h => mset_k (fun e => h (by omega))
theorem sV_26 {w : mW} {a v : Int} : sV w (mset w 26 a v) := fun k i h => mset_k (fun e => h (by omega))
theorem sV.tr {w w' w2 : mW} (h : sV w w') (h2 : sV w' w2) : sV w w2 := fun k i g => (h2 k i g).trans (h k i g)
section XV31
variable {θ : zTh} {σ : xA} {w : mW} {M : zMap}
theorem xM.s31 (hX : xM θ σ w (xL w) M) (hs : xS w) {x i v : Int} {e' : va_E} (hx : 0 ≤ x ∧ x < w 27 0) (h29 : w 29 x ≠ -1) (hi : 0 ≤ i ∧ i < w 29 x) (he : xRow θ σ w (w 4 (w 28 x)) (w 29 x).toNat (svU (fun j : Nat => w 31 (20 * x + j)) i v) e') : xM θ σ (mset w 31 (20 * x + i) v) (xL (mset w 31 (20 * x + i) v)) (zup M (σ 32 x) e') := by
  have hl0 : xLv w (xL w) 32 x := Or.inr (Or.inr (Or.inr (Or.inr (Or.inr (Or.inr (Or.inr (Or.inl ⟨rfl, hx.1, hx.2, h29⟩)))))))
  rw [xL_V sV_31]
  refine ⟨fun a j b j' h1 h2 => hX.1 a j b j' h1 h2, fun a j h => ?_⟩
  have hl : xLv w (xL w) a j := h
  by_cases h0 : a = 32 ∧ j = x
  · obtain ⟨rfl, rfl⟩ := h0
    refine ⟨_, zup_s, ?_⟩
    refine (xRow_eq (w1 := mset w 31 (20 * j + i) v) (σ' := σ) rfl (fun j9 h9 => ?_) (fun _ _ _ _ => rfl) he : xRow θ σ (mset w 31 (20 * j + i) v) _ _ (fun j9 : Nat => mset w 31 (20 * j + i) v 31 (20 * j + j9)) _)
    show mset w 31 (20 * j + i) v 31 (20 * j + j9) = svU _ i v j9
    unfold svU
    by_cases e : (j9 : Int) = i
    · rw [if_pos e, e, mset_s]
    · rw [if_neg e, mset_i (by omega)]
  · obtain ⟨e, g1, g2⟩ := hX.2 a j hl
    refine ⟨e, (zup_n (fun e9 => h0 (hX.1 a j 32 x hl hl0 e9))).trans g1, ?_⟩
    by_cases h32 : a = 32
    · subst h32
      have hb := (hs.2.1.X hx.1 hx.2).2.1
      have hjx : j ≠ x := fun e => h0 ⟨rfl, e⟩
      have hb2 : w 29 j ≤ 20 := by
        have hj : 0 ≤ j ∧ j < w 27 0 := by unfold xLv at hl; omega
        exact (hs.2.1.X hj.1 hj.2).2.1.2
      refine (xRow_eq (w1 := mset w 31 (20 * x + i) v) (σ' := σ) rfl (fun j9 h9 => ?_) (fun _ _ _ _ => rfl) g2 : xRow θ σ (mset w 31 (20 * x + i) v) _ _ (fun j9 : Nat => mset w 31 (20 * x + i) v 31 (20 * j + j9)) _)
      exact mset_i (by omega)
    · rcases xLv_k hl with rfl | rfl | rfl | rfl | rfl | rfl | rfl | rfl | rfl | rfl | rfl | rfl | rfl | rfl | rfl | rfl | rfl | rfl | rfl | rfl <;> first | exact g2 | (exfalso; omega)
theorem xM.s26 (hX : xM θ σ w (xL w) M) {f v : Int} {e' : va_E} (hl0 : xLv w (xL w) 23 f) (he : xRow θ σ w (w 17 f) 1 (fun _ => v) e') : xM θ σ (mset w 26 f v) (xL (mset w 26 f v)) (zup M (σ 23 f) e') := by
  rw [xL_V sV_26]
  refine ⟨fun a j b j' h1 h2 => hX.1 a j b j' h1 h2, fun a j h => ?_⟩
  have hl : xLv w (xL w) a j := h
  by_cases h0 : a = 23 ∧ j = f
  · obtain ⟨rfl, rfl⟩ := h0
    refine ⟨_, zup_s, ?_⟩
    refine (xRow_eq (w1 := mset w 26 j v) (σ' := σ) rfl (fun j9 h9 => ?_) (fun _ _ _ _ => rfl) he : xRow θ σ (mset w 26 j v) _ _ (fun j9 : Nat => mset w 26 j v 26 j) _)
    exact mset_s
  · obtain ⟨e, g1, g2⟩ := hX.2 a j hl
    refine ⟨e, (zup_n (fun e9 => h0 (hX.1 a j 23 f hl hl0 e9))).trans g1, ?_⟩
    by_cases h32 : a = 23
    · subst h32
      have hjx : j ≠ f := fun e => h0 ⟨rfl, e⟩
      refine (xRow_eq (w1 := mset w 26 f v) (σ' := σ) rfl (fun j9 h9 => ?_) (fun _ _ _ _ => rfl) g2 : xRow θ σ (mset w 26 f v) _ _ (fun j9 : Nat => mset w 26 f v 26 j) _)
      exact mset_i hjx
    · rcases xLv_k hl with rfl | rfl | rfl | rfl | rfl | rfl | rfl | rfl | rfl | rfl | rfl | rfl | rfl | rfl | rfl | rfl | rfl | rfl | rfl | rfl <;> first | exact g2 | (exfalso; omega)
theorem xM.s30 (hX : xM θ σ w (xL w) M) {p v : Int} {e' : va_E} (hl0 : xLv w (xL w) 33 p) (he : xRow θ σ w (w 17 (p % 100)) 1 (fun _ => v) e') : xM θ σ (mset w 30 p v) (xL (mset w 30 p v)) (zup M (σ 33 p) e') := by
  rw [xL_V sV_30]
  refine ⟨fun a j b j' h1 h2 => hX.1 a j b j' h1 h2, fun a j h => ?_⟩
  have hl : xLv w (xL w) a j := h
  by_cases h0 : a = 33 ∧ j = p
  · obtain ⟨rfl, rfl⟩ := h0
    refine ⟨_, zup_s, ?_⟩
    refine (xRow_eq (w1 := mset w 30 j v) (σ' := σ) rfl (fun j9 h9 => ?_) (fun _ _ _ _ => rfl) he : xRow θ σ (mset w 30 j v) _ _ (fun j9 : Nat => mset w 30 j v 30 j) _)
    exact mset_s
  · obtain ⟨e, g1, g2⟩ := hX.2 a j hl
    refine ⟨e, (zup_n (fun e9 => h0 (hX.1 a j 33 p hl hl0 e9))).trans g1, ?_⟩
    by_cases h32 : a = 33
    · subst h32
      have hjx : j ≠ p := fun e => h0 ⟨rfl, e⟩
      refine (xRow_eq (w1 := mset w 30 p v) (σ' := σ) rfl (fun j9 h9 => ?_) (fun _ _ _ _ => rfl) g2 : xRow θ σ (mset w 30 p v) _ _ (fun j9 : Nat => mset w 30 p v 30 j) _)
      exact mset_i hjx
    · rcases xLv_k hl with rfl | rfl | rfl | rfl | rfl | rfl | rfl | rfl | rfl | rfl | rfl | rfl | rfl | rfl | rfl | rfl | rfl | rfl | rfl | rfl <;> first | exact g2 | (exfalso; omega)
theorem xL_sl {s a v : Int} : xL (layW w s a v) = xL w := xL_eq (fun _ => rfl) (fun _ => rfl) (fun _ => rfl) (fun _ => rfl)
theorem xM.sl (hX : xM θ σ w (xL w) M) {s a v : Int} {e' : va_E} (hs : 0 ≤ s ∧ s < 8) (he : e' = .inr (6, [.int (iI a), .long (lI (if a = 8 then 0 else v)), va_rf (if a = 8 then xo σ 30 v else none)])) : xM θ σ (layW w s a v) (xL (layW w s a v)) (zup M (σ 40 s) e') := by
  have hl0 : xLv w (xL w) 40 s := Or.inr (Or.inr (Or.inr (Or.inr (Or.inr (Or.inr (Or.inr (Or.inr (Or.inr ⟨rfl, hs.1, hs.2⟩))))))))
  rw [xL_sl]
  refine ⟨fun a j b j' h1 h2 => hX.1 a j b j' h1 h2, fun k j h => ?_⟩
  have hl : xLv w (xL w) k j := h
  by_cases h0 : k = 40 ∧ j = s
  · obtain ⟨rfl, rfl⟩ := h0
    refine ⟨_, zup_s, ?_⟩
    have e2 : layW w j a v 32 j = a := (mset_k (by decide)).trans mset_s
    have e3 : layW w j a v 33 j = v := mset_s
    show e' = .inr (6, [.int (iI (layW w j a v 32 j)), .long (lI (if layW w j a v 32 j = 8 then 0 else layW w j a v 33 j)), va_rf (if layW w j a v 32 j = 8 then xo σ 30 (layW w j a v 33 j) else none)])
    rw [e2, e3]; exact he
  · obtain ⟨e, g1, g2⟩ := hX.2 k j hl
    refine ⟨e, (zup_n (fun e9 => h0 (hX.1 k j 40 s hl hl0 e9))).trans g1, ?_⟩
    by_cases h32 : k = 40
    · subst h32
      have hjx : j ≠ s := fun e => h0 ⟨rfl, e⟩
      have e2 : layW w s a v 32 j = w 32 j := (mset_k (by decide)).trans (mset_i hjx)
      have e3 : layW w s a v 33 j = w 33 j := (mset_i hjx).trans (mset_k (by decide))
      show e = .inr (6, [.int (iI (layW w s a v 32 j)), .long (lI (if layW w s a v 32 j = 8 then 0 else layW w s a v 33 j)), va_rf (if layW w s a v 32 j = 8 then xo σ 30 (layW w s a v 33 j) else none)])
      rw [e2, e3]; exact g2
    · rcases xLv_k hl with rfl | rfl | rfl | rfl | rfl | rfl | rfl | rfl | rfl | rfl | rfl | rfl | rfl | rfl | rfl | rfl | rfl | rfl | rfl | rfl <;> first | exact g2 | (exfalso; omega)
/-- a field anew -/
theorem xM.sf (hX : xM θ σ w (xL w) M) (hs : xS w) (hF : xFd w) {m x v : Int} (hm : 0 ≤ m ∧ m < w 11 0) (hfd : w 16 m = 1) (hx : -1 ≤ x ∧ x < w 27 0) (h : agI w m x = 0) {e' : va_E} (he : xRow θ σ w (w 17 m) 1 (fun _ => v) e') : xM θ σ (sfW w m x v) (xL (sfW w m x v)) (zup M (rwA σ w m x) e') := by
  unfold rwA sfW
  unfold agI at h
  cases hst : hasB w m 4 with
  | true =>
    have hr : xHasRow w m = true := by unfold xHasRow; rw [hst]; simp [hfd]
    exact hX.s26 (Or.inr (Or.inr (Or.inr (Or.inr (Or.inl ⟨rfl, hm.1, hm.2, hr⟩))))) he
  | false =>
    rw [hst] at h
    simp only [Bool.false_eq_true, if_false] at h
    split at h
    · omega
    · split at h
      · omega
      · rename_i h1 h2
        have his : isa w (w 28 x) (w 13 m) = true := by simpa using h2
        have x0 : 0 ≤ x := by omega
        have hone := fd_one hs hF hm.1 hm.2 hfd x0 hx.2 hst his
        have hin := fd_in hs hF hm.1 hm.2 hfd x0 hx.2 hst his
        have h100 : w 11 0 ≤ 100 := hs.2.1.B.2.2.2.1
        have e1 : (100 * x + m) / 100 = x := by omega
        have e2 : (100 * x + m) % 100 = m := by omega
        exact hX.s30 (Or.inr (Or.inr (Or.inr (Or.inr (Or.inr (Or.inr (Or.inr (Or.inr (Or.inl ⟨rfl, by omega, by omega, by rw [e1]; exact hone, by omega, by rw [e2]; exact hfd, by rw [e2]; exact hst, by rw [e1, e2]; exact hin⟩))))))))) (by rw [e2]; exact he)
theorem sV_sf {m x v : Int} : sV w (sfW w m x v) := by unfold sfW; split; exact sV_26; exact sV_30
end XV31

