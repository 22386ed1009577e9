/-! ===== the searches ===== -/
def vAdd (V : Int → Bool) (t : Int) : Int → Bool := fun x => V x || decide (x = t)
def sF (o : Int → Int) (ch : Int → List Int) : Nat → Int → (Int → Bool) → Int × (Int → Bool)
  | 0, _, V => (-1, V)
  | n + 1, t, V => if V t then (-1, V) else if o t ≠ -1 then (o t, vAdd V t) else (ch t).foldl (fun r c => if r.1 ≠ -1 then r else sF o ch n c r.2) (-1, vAdd V t)
def sL (o : Int → Int) (ch : Int → List Int) (n : Nat) (L : List Int) (V : Int → Bool) : Int × (Int → Bool) := L.foldl (fun r c => if r.1 ≠ -1 then r else sF o ch n c r.2) (-1, V)
theorem sL_stay {o : Int → Int} {ch : Int → List Int} {n : Nat} : ∀ {L : List Int} {r : Int × (Int → Bool)}, r.1 ≠ -1 → L.foldl (fun r c => if r.1 ≠ -1 then r else sF o ch n c r.2) r = r
  | [], _, _ => rfl
  | c :: L, r, h => by rw [List.foldl_cons, if_pos h]; exact sL_stay h
theorem sL_nil {o : Int → Int} {ch : Int → List Int} {n : Nat} {V : Int → Bool} : sL o ch n [] V = (-1, V) := rfl
theorem sL_pair {r : Int × (Int → Bool)} (h : r.1 = -1) : r = (-1, r.2) := by cases r; simp at h; rw [h]
theorem sL_app {o : Int → Int} {ch : Int → List Int} {n : Nat} {A B : List Int} {V : Int → Bool} : sL o ch n (A ++ B) V = if (sL o ch n A V).1 ≠ -1 then sL o ch n A V else sL o ch n B (sL o ch n A V).2 := by
  unfold sL
  rw [List.foldl_append]
  split
  · rename_i h; exact sL_stay h
  · rename_i h
    have := sL_pair (r := A.foldl (fun r c => if r.1 ≠ -1 then r else sF o ch n c r.2) (-1, V)) (by omega)
    rw [← this]
theorem sL_one {o : Int → Int} {ch : Int → List Int} {n : Nat} {c : Int} {V : Int → Bool} : sL o ch n [c] V = sF o ch n c V := rfl
theorem sL_cons {o : Int → Int} {ch : Int → List Int} {n : Nat} {c : Int} {L : List Int} {V : Int → Bool} : sL o ch n (c :: L) V = if (sF o ch n c V).1 ≠ -1 then sF o ch n c V else sL o ch n L (sF o ch n c V).2 := sL_app (A := [c])
theorem sF_s {o : Int → Int} {ch : Int → List Int} {n : Nat} {t : Int} {V : Int → Bool} : sF o ch (n + 1) t V = if V t then (-1, V) else if o t ≠ -1 then (o t, vAdd V t) else sL o ch n (ch t) (vAdd V t) := rfl
theorem sF_r {o : Int → Int} {ch : Int → List Int} {N : Int} (ho : ∀ u, -1 ≤ o u ∧ o u < N) (hN : 0 ≤ N) : ∀ (n : Nat) (t : Int) (V : Int → Bool), -1 ≤ (sF o ch n t V).1 ∧ (sF o ch n t V).1 < N
  | 0, _, _ => ⟨by simp [sF], by simp [sF]; omega⟩
  | n + 1, t, V => by
    have hL : ∀ (L : List Int) (V : Int → Bool), -1 ≤ (sL o ch n L V).1 ∧ (sL o ch n L V).1 < N := fun L => by
      induction L with
      | nil => intro V; exact ⟨by simp [sL], by simp [sL]; omega⟩
      | cons c L ih => intro V; rw [sL_cons]; split; exact sF_r ho hN n c V; exact ih _
    rw [sF_s]
    split
    · exact ⟨by omega, by simp; omega⟩
    · split
      · exact ho t
      · exact hL _ _
theorem sL_r {o : Int → Int} {ch : Int → List Int} {N : Int} (ho : ∀ u, -1 ≤ o u ∧ o u < N) (hN : 0 ≤ N) (n : Nat) : ∀ (L : List Int) (V : Int → Bool), -1 ≤ (sL o ch n L V).1 ∧ (sL o ch n L V).1 < N
  | [], V => ⟨by simp [sL], by simp [sL]; omega⟩
  | c :: L, V => by rw [sL_cons]; split; exact sF_r ho hN n c V; exact sL_r ho hN n L _
/-- the search by a stack comes to the same -/
theorem dfs_sL {p : Int → Bool} {o : Int → Int} {ch : Int → List Int} {T : Int} (hT : T ≤ 60) (hp : ∀ u, p u = decide (o u ≠ -1)) (hch : ∀ t x : Int, 0 ≤ t → t < T → x ∈ ch t → 0 ≤ x ∧ x < t) (hl : ∀ t : Int, 0 ≤ t → t < T → (ch t).length ≤ 4) : ∀ (n : Nat) (L S : List Int) (V : Int → Bool) (f : Nat), (∀ x ∈ L, 0 ≤ x ∧ x < T ∧ x < n) → L.length + S.length + 5 * unN V ≤ f →
    ((sL o ch n L V).1 ≠ -1 → ∃ u, dfs p ch f (L ++ S) V = u ∧ 0 ≤ u ∧ o u = (sL o ch n L V).1) ∧ ((sL o ch n L V).1 = -1 → ∃ f', dfs p ch f (L ++ S) V = dfs p ch f' S (sL o ch n L V).2 ∧ S.length + 5 * unN (sL o ch n L V).2 ≤ f')
  | 0, [], S, V, f, _, hf => ⟨fun h => absurd rfl h, fun _ => ⟨f, rfl, by simp [sL] at hf ⊢; omega⟩⟩
  | 0, c :: L, S, V, f, hL, hf => by have := hL c (List.mem_cons_self ..); omega
  | n + 1, [], S, V, f, _, hf => ⟨fun h => absurd rfl h, fun _ => ⟨f, rfl, by simp [sL] at hf ⊢; omega⟩⟩
  | n + 1, c :: L, S, V, f, hL, hf => by
    have hc := hL c (List.mem_cons_self ..)
    have hL' : ∀ x ∈ L, 0 ≤ x ∧ x < T ∧ x < (n + 1 : Nat) := fun x hx => hL x (List.mem_cons_of_mem _ hx)
    simp only [List.length_cons] at hf
    obtain ⟨f1, rfl⟩ : ∃ f1, f = f1 + 1 := ⟨f - 1, by omega⟩
    rw [sL_cons, sF_s, List.cons_append]
    by_cases hV : V c = true
    · rw [if_pos hV]
      simp only [dfs, hV, if_true]
      rw [if_neg (by simp)]
      exact dfs_sL hT hp hch hl (n + 1) L S V f1 hL' (by omega)
    · rw [if_neg hV]
      have hV' : V c = false := by simpa using hV
      by_cases ho : o c ≠ -1
      · rw [if_pos ho]
        have hpc : p c = true := by rw [hp]; exact decide_eq_true ho
        simp only [dfs, hV', hpc, if_true, Bool.false_eq_true, if_false]
        rw [if_pos ho]
        exact ⟨fun _ => ⟨c, rfl, hc.1, rfl⟩, fun h => absurd h ho⟩
      · rw [if_neg ho]
        have hpc : p c = false := by rw [hp]; exact decide_eq_false ho
        simp only [dfs, hV', hpc, Bool.false_eq_true, if_false]
        have hu := unN_set (V := V) (t := c) ⟨hc.1, by omega⟩ hV'
        have h4 := hl c hc.1 hc.2.1
        have key := dfs_sL hT hp hch hl n (ch c) (L ++ S) (vAdd V c) f1 (fun x hx => by have := hch c x hc.1 hc.2.1 hx; omega) (by rw [List.length_append]; unfold vAdd; omega)
        by_cases hr : (sL o ch n (ch c) (vAdd V c)).1 ≠ -1
        · rw [if_pos hr]
          exact ⟨fun _ => key.1 hr, fun h => absurd h hr⟩
        · rw [if_neg hr]
          obtain ⟨f', e1, e2⟩ := key.2 (by omega)
          have e3 := dfs_sL hT hp hch hl (n + 1) L S (sL o ch n (ch c) (vAdd V c)).2 f' hL' (by rw [List.length_append] at e2; omega)
          have e4 : dfs p ch f1 (ch c ++ (L ++ S)) (fun x => V x || decide (x = c)) = dfs p ch f' (L ++ S) (sL o ch n (ch c) (vAdd V c)).2 := e1
          rw [e4]
          exact e3
/-- what a field's search takes of a type, a method's -/
def xfO (w : mW) (n y u : Int) : Int := if ofI w u n ≠ -1 ∧ (y = 1 → whoI w (ofI w u n) = 1) then ofI w u n else -1
def xmO (w : mW) (t m y u : Int) : Int := if olI w u m = -1 then -1 else if y = 0 then olI w u m else if (y = 1 ∧ whoI w (olI w u m) ≠ 1) ∨ (hasB w (olI w u m) 4 = true ∧ w 1 u = 3 ∧ u ≠ t) then -1 else olI w u m
def xCh (w : mW) (y : Int) (pf : Bool) (t : Int) : List Int := if y = 0 then [] else chL w pf t
theorem xfO_r {w : mW} {n y u : Int} (h : 0 ≤ w 11 0) : -1 ≤ xfO w n y u ∧ xfO w n y u < w 11 0 := by
  have := ofI_r (w := w) (t := u) (n := n) h
  unfold xfO; split <;> omega
theorem xmO_r {w : mW} {t m y u : Int} (h : 0 ≤ w 11 0) : -1 ≤ xmO w t m y u ∧ xmO w t m y u < w 11 0 := by
  have := olI_r (w := w) (t := u) (m := m) h
  unfold xmO; (repeat' split) <;> omega
theorem ffI_x {w : mW} (hS : mS w) {t n y : Int} (h1 : tyB w t = true) (h2 : 0 ≤ n ∧ n ≤ 19) (h3 : 0 ≤ y ∧ y ≤ 2) : ffI w t n y = (sF (xfO w n y) (xCh w y (!decide (y = 1))) 60 t (fun _ => false)).1 := by
  have ht : 0 ≤ t ∧ t < w 0 0 := by unfold tyB at h1; simpa using h1
  have hB := hS.B
  unfold ffI
  rw [if_neg (by simp [h1]; omega)]
  by_cases hy : y = 0
  · rw [if_pos hy, sF_s, if_neg (by decide)]
    have e : xfO w n y t = ofI w t n := by unfold xfO; split <;> (rename_i h; first | rfl | (by_cases g : ofI w t n = -1; exact g.symm; exact absurd ⟨g, fun h9 => by omega⟩ h))
    rw [e]
    by_cases g : ofI w t n ≠ -1
    · rw [if_pos g]
    · rw [if_neg g]; unfold xCh; rw [if_pos hy, sL_nil]; show _ = (-1 : Int); omega
  · rw [if_neg hy]
    have hp : ∀ u, ffP w n y u = decide (xfO w n y u ≠ -1) := fun u => by
      unfold ffP xfO
      by_cases g : ofI w u n = -1
      · simp [g]
      · by_cases g2 : y = 2
        · subst g2; simp [g]
        · have : y = 1 := by omega
          subst this
          by_cases g3 : whoI w (ofI w u n) = 1 <;> simp [g, g3]
    have hpf : (fun t => chL w (decide (y = 2)) t) = xCh w y (!decide (y = 1)) := by
      funext u
      unfold xCh; rw [if_neg hy]
      congr 1
      by_cases g2 : y = 2
      · subst g2; decide
      · have : y = 1 := by omega
        subst this; decide
    have key := dfs_sL (p := ffP w n y) (o := xfO w n y) (ch := chL w (decide (y = 2))) (T := w 0 0) hB.2.1 hp (fun t x h0 h1 hx => chL_in hS h0 h1 hx) (fun t h0 h1 => chL_len (hS.T h0 h1).2.1) 60 [t] [] (fun _ => false) 301 (fun x hx => by simp at hx; subst hx; exact ⟨ht.1, ht.2, by have := hB.2.1; omega⟩) (by have := unN_le (fun _ => false); simp; omega)
    rw [sL_one, show (chL w (decide (y = 2))) = xCh w y (!decide (y = 1)) from hpf] at key
    unfold ffT
    rw [show (chL w (decide (y = 2))) = xCh w y (!decide (y = 1)) from hpf]
    by_cases hr : (sF (xfO w n y) (xCh w y (!decide (y = 1))) 60 t fun _ => false).1 ≠ -1
    · obtain ⟨u, e1, e2, e3⟩ := key.1 hr
      rw [List.append_nil] at e1
      rw [e1, if_neg (by omega), ← e3]
      rw [← e3] at hr
      unfold xfO at hr ⊢
      split at hr
      · rename_i h; rw [if_pos h]
      · exact absurd rfl hr
    · obtain ⟨f', e1, e2⟩ := key.2 (by omega)
      rw [List.append_nil] at e1
      have e3 : dfs (ffP w n y) (xCh w y (!decide (y = 1))) f' [] (sF (xfO w n y) (xCh w y (!decide (y = 1))) 60 t fun _ => false).2 = -1 := by cases f' <;> rfl
      rw [e1, e3, if_pos rfl]; omega
theorem fnI_x {w : mW} (hS : mS w) {t m y : Int} (ht : 0 ≤ t ∧ t < w 0 0) (h3 : 0 ≤ y ∧ y ≤ 2) : fnI w t m y = (sF (xmO w t m y) (xCh w y true) 60 t (fun _ => false)).1 := by
  have hB := hS.B
  unfold fnI
  by_cases hy : y = 0
  · rw [if_pos hy, sF_s, if_neg (by decide)]
    have e : xmO w t m y t = olI w t m := by unfold xmO; rw [if_pos hy]; split; omega; rfl
    rw [e]
    by_cases g : olI w t m ≠ -1
    · rw [if_pos g]
    · rw [if_neg g]; unfold xCh; rw [if_pos hy, sL_nil]; show _ = (-1 : Int); omega
  · rw [if_neg hy]
    have hp : ∀ u, fnP w t m y u = decide (xmO w t m y u ≠ -1) := fun u => by
      unfold fnP xmO
      rw [if_neg hy]
      by_cases g : olI w u m = -1
      · simp [g]
      · rw [if_neg g]
        by_cases g2 : (y = 1 ∧ whoI w (olI w u m) ≠ 1) ∨ (hasB w (olI w u m) 4 = true ∧ w 1 u = 3 ∧ u ≠ t)
        · rw [if_pos g2]
          rcases g2 with g2 | g2
          · simp [g, g2]
          · simp [g, g2]
        · rw [if_neg g2]
          rw [not_or] at g2
          have a1 : y = 2 ∨ whoI w (olI w u m) = 1 := by
            by_cases c : y = 2
            · exact Or.inl c
            · right; have : y = 1 := by omega
              by_cases c2 : whoI w (olI w u m) = 1
              · exact c2
              · exact absurd ⟨this, c2⟩ g2.1
          have a2 : (decide (w 1 u = 3) && hasB w (olI w u m) 4 && decide (u ≠ t)) = false := by
            apply Bool.eq_false_iff.mpr
            intro h
            simp only [Bool.and_eq_true, decide_eq_true_eq] at h
            exact g2.2 ⟨h.1.2, h.1.1, h.2⟩
          rw [a2]
          simp [g]
          exact a1
    have hpf : (fun t => chL w true t) = xCh w y true := by
      funext u
      unfold xCh; rw [if_neg hy]
    have key := dfs_sL (p := fnP w t m y) (o := xmO w t m y) (ch := chL w true) (T := w 0 0) hB.2.1 hp (fun t x h0 h1 hx => chL_in hS h0 h1 hx) (fun t h0 h1 => chL_len (hS.T h0 h1).2.1) 60 [t] [] (fun _ => false) 301 (fun x hx => by simp at hx; subst hx; exact ⟨ht.1, ht.2, by have := hB.2.1; omega⟩) (by have := unN_le (fun _ => false); simp; omega)
    rw [sL_one, show (chL w true) = xCh w y true from hpf] at key
    unfold fnT
    rw [show (chL w true) = xCh w y true from hpf]
    by_cases hr : (sF (xmO w t m y) (xCh w y true) 60 t fun _ => false).1 ≠ -1
    · obtain ⟨u, e1, e2, e3⟩ := key.1 hr
      rw [List.append_nil] at e1
      rw [e1, if_neg (by omega), ← e3]
      rw [← e3] at hr
      unfold xmO at hr ⊢
      rw [if_neg hy] at hr ⊢
      split at hr
      · exact absurd rfl hr
      · rename_i h; rw [if_neg h]
        split at hr
        · exact absurd rfl hr
        · rename_i h2; rw [if_neg h2]
    · obtain ⟨f', e1, e2⟩ := key.2 (by omega)
      rw [List.append_nil] at e1
      have e3 : dfs (fnP w t m y) (xCh w y true) f' [] (sF (xmO w t m y) (xCh w y true) 60 t fun _ => false).2 = -1 := by cases f' <;> rfl
      rw [e1, e3, if_pos rfl]; omega
theorem sF1 {o : Int → Int} {ch : Int → List Int} {n : Nat} {t : Int} {V : Int → Bool} (h : V t = true) : sF o ch (n + 1) t V = (-1, V) := by rw [sF_s, if_pos h]
theorem sF2 {o : Int → Int} {ch : Int → List Int} {n : Nat} {t : Int} {V : Int → Bool} (h : V t = false) (h2 : o t ≠ -1) : sF o ch (n + 1) t V = (o t, vAdd V t) := by rw [sF_s, if_neg (by simp [h]), if_pos h2]
theorem sF3 {o : Int → Int} {ch : Int → List Int} {n : Nat} {t : Int} {V : Int → Bool} {A B : List Int} (h : V t = false) (h2 : o t = -1) (hc : ch t = A ++ B) : sF o ch (n + 1) t V = if (sL o ch n A (vAdd V t)).1 ≠ -1 then sL o ch n A (vAdd V t) else sL o ch n B (sL o ch n A (vAdd V t)).2 := by rw [sF_s, if_neg (by simp [h]), if_neg (by omega), hc, sL_app]
theorem sF0 {o : Int → Int} {ch : Int → List Int} {n : Nat} {t : Int} {V : Int → Bool} (h : V t = false) (h2 : o t = -1) (hc : ch t = []) : sF o ch (n + 1) t V = (-1, vAdd V t) := by rw [sF_s, if_neg (by simp [h]), if_neg (by omega), hc, sL_nil]
theorem sL_fc {w : mW} {o : Int → Int} {ch : Int → List Int} {n : Nat} {t : Int} {k : Nat} {V : Int → Bool} : sL o ch n (fcL w t (k + 1)) V = if (sL o ch n (fcL w t k) V).1 ≠ -1 then sL o ch n (fcL w t k) V else sF o ch n (w 7 (3 * t + k)) (sL o ch n (fcL w t k) V).2 := by
  have e : fcL w t (k + 1) = fcL w t k ++ [w 7 (3 * t + k)] := by unfold fcL; rw [List.range_succ, List.map_append]; rfl
  rw [e, sL_app, sL_one]
/-- no object of the class's own stands there -/
def xFr (σ : xA) (w : mW) (Lf : Int → List Int) (a : Nat) : Prop := ∀ (k : Nat) (i : Int), xLv w Lf k i → σ k i ≠ a
theorem xM.up {θ : zTh} {σ : xA} {w : mW} {Lf : Int → List Int} {M : zMap} {a : Nat} {e : va_E} (h : xM θ σ w Lf M) (ha : xFr σ w Lf a) : xM θ σ w Lf (zup M a e) := ⟨h.1, fun k i hl => by obtain ⟨e9, h1, h2⟩ := h.2 k i hl; exact ⟨e9, by rw [zup_n (ha k i hl)]; exact h1, h2⟩⟩
theorem xM.fr {θ : zTh} {σ : xA} {w : mW} {Lf : Int → List Int} {M : zMap} {a : Nat} (h : xM θ σ w Lf M) (ha : M a = none) : xFr σ w Lf a := fun k i hl he => by obtain ⟨e9, h1, h2⟩ := h.2 k i hl; rw [he, ha] at h1; cases h1
def zGe (M M' : zMap) : Prop := ∀ (a : Nat) (e : va_E), M a = some e → M' a = some e
theorem zGe.rf {M : zMap} : zGe M M := fun _ _ h => h
theorem zGe.tr {M M' M'' : zMap} (h : zGe M M') (h' : zGe M' M'') : zGe M M'' := fun a e g => h' a e (h a e g)
theorem zGe.up {M M' : zMap} {a : Nat} {e : va_E} (h : zGe M M') (ha : M a = none) : zGe M (zup M' a e) := fun b e9 g => by
  by_cases hb : b = a
  · subst hb; rw [ha] at g; cases g
  · rw [zup_n hb]; exact h b e9 g
theorem xM.ge {θ : zTh} {σ : xA} {w : mW} {Lf : Int → List Int} {M M' : zMap} (h : xM θ σ w Lf M) (hg : zGe M M') : xM θ σ w Lf M' := ⟨h.1, fun k i hl => by obtain ⟨e9, h1, h2⟩ := h.2 k i hl; exact ⟨e9, hg _ _ h1, h2⟩⟩
theorem zup_up {M : zMap} {a : Nat} {e e' : va_E} : zup (zup M a e) a e' = zup M a e' := by
  funext b; unfold zup; split <;> rfl
abbrev metE (θ : zTh) (V : Int → Bool) : va_E := .inl (θ.2.1 0, 60, .inl (fun j : Nat => iI (bI (V j))))
theorem metE_at {V : Int → Bool} {t : Int} (h : 0 ≤ t) : iI (bI (V ((t.toNat : Nat) : Int))) = iI (bI (V t)) := by rw [show ((t.toNat : Nat) : Int) = t by omega]
theorem metE_up {V : Int → Bool} {t : Int} (h : 0 ≤ t) : upd (fun j : Nat => iI (bI (V j))) t.toNat (iI 1) = fun j : Nat => iI (bI (vAdd V t j)) := by
  funext j
  unfold upd vAdd
  by_cases e : j = t.toNat
  · subst e; simp [show ((t.toNat : Nat) : Int) = t by omega]; rfl
  · have : ¬ ((j : Int) = t) := by omega
    simp [e, this]
def xSr (l : Launch) (θ : zTh) (σ : xA) (w : mW) (M N : zMap) (sr mt : Nat) (o : Int → Int) (ch : Int → List Int) (fu : Nat) : Prop := ∀ (t : Int) (V : Int → Bool), 0 ≤ t ∧ t < w 0 0 → t < fu → ZM θ l yX19_from cX19_from 3 (some (.object "ReflectMirror$Member")) ⟨2 * fu + 12, 0, 0, 60 * fu + 400⟩ [.ref (sr), .ref (σ 10 (t))] (zP θ (zup M mt (metE θ V)) N) (zFn (some (va_rf (xo σ 20 ((sF o ch fu t V).1)))) (zP θ (zup M mt (metE θ ((sF o ch fu t V).2))) N))
theorem zGe.no {M M' : zMap} {a : Nat} (h : zGe M M') (ha : M' a = none) : M a = none := by
  cases e : M a with
  | none => rfl
  | some x => rw [h a x e] at ha; cases ha
/-- all but what stands at a is as it was -/
def zFx (a : Nat) (M M' : zMap) : Prop := ∀ (b : Nat) (e : va_E), M b = some e → b ≠ a → M' b = some e
theorem zFx.rf {a : Nat} {M : zMap} : zFx a M M := fun _ _ h _ => h
theorem zFx.up {a b : Nat} {M M' : zMap} {e : va_E} (h : zFx a M M') (hb : M b = none ∨ b = a) : zFx a M (zup M' b e) := fun c e9 g hc => by
  by_cases hcb : c = b
  · subst hcb
    rcases hb with hb | hb
    · rw [hb] at g; cases g
    · exact absurd hb hc
  · rw [zup_n hcb]; exact h c e9 g hc
theorem zFx.no {a b : Nat} {M M' : zMap} (h : zFx a M M') (hb : M' b = none) (hne : b ≠ a) : M b = none := by
  cases e : M b with
  | none => rfl
  | some x => rw [h b x e hne] at hb; cases hb
theorem xM.fx {θ : zTh} {σ : xA} {w : mW} {Lf : Int → List Int} {M M' : zMap} {a : Nat} (h : xM θ σ w Lf M) (hf : zFx a M M') (ha : xFr σ w Lf a) : xM θ σ w Lf M' := ⟨h.1, fun k i hl => by obtain ⟨e9, h1, h2⟩ := h.2 k i hl; exact ⟨e9, hf _ _ h1 (ha k i hl), h2⟩⟩
theorem zGe.fx {M M' M'' : zMap} {a : Nat} (h : zGe M M') (hf : zFx a M' M'') (ha : M a = none) : zGe M M'' := fun b e9 g => hf b e9 (h b e9 g) (fun hb => by subst hb; rw [ha] at g; cases g)
theorem zFx.fx {M M' M'' : zMap} {a b : Nat} (h : zFx a M M') (hf : zFx b M' M'') (hb : M b = none ∨ b = a) : zFx a M M'' := fun c e9 g hc => hf c e9 (h c e9 g hc) (fun he => by
  subst he
  rcases hb with hb | hb
  · rw [hb] at g; cases g
  · exact hc hb)
theorem zup_id {M : zMap} {a : Nat} {e : va_E} (h : M a = some e) : zup M a e = M := by
  funext b; unfold zup; split
  · rename_i hb; rw [hb, h]
  · rfl

set_option maxRecDepth 100000 in
theorem k22_own {l : Launch} {θ : zTh} {σ : xA} {w : mW} {M N : zMap} (hX : xM θ σ w (xL w) M) (hs : xS w) (hw : mWF w) (hT : zTb θ) (sr : Nat) (mt : Nat) (y : Int) (n : Int) (t : Int) (V : Int → Bool)  (ht : 0 ≤ t ∧ t < w 0 0) (r_y : inR y) (r_n : inR n) (hsr : M sr = some (.inr (22, [.ref mt, .int (iI y), .ref (σ 0 (0)), .int (iI n), .ref (σ 0 (0))]))) (hne : sr ≠ mt) (hmt : xFr σ w (xL w) mt) (hUq : xUq w) : ZM θ l yX22_own cX22_own 3 (some (.object "ReflectMirror$Member")) ⟨1, 0, 0, 23⟩ [.ref (sr), .ref (σ 10 (t))] (zP θ (zup M mt (metE θ V)) N) (zFn (some (va_rf (xo σ 20 ((xfO w n y) t)))) (zP θ (zup M mt (metE θ V)) N)) := by
  refine z_start (own := RX22) (nm := "own") pnX22 rfl rfl (Nat.le_of_ble_eq_true rfl) ?_
  intro κ hκ hκl C
  change Z κ (zP θ (zup M mt (metE θ V)) N) 0 0 0 [(0, .ref (sr)), (1, .ref (σ 10 (t)))] []
  have hS := hs.S
  have hB := hS.B
  obtain ⟨hB1, hB2, hB3, hB4, hB5, hB6⟩ := hS.B
  have hC := hS.C
  obtain ⟨h81, h82⟩ := hs.r8
  have hUq9 := hUq
  refine z_aload_n C 1 0 dX22_own_0 rfl rfl ?_
  refine z_getf C hκ (v := .ref (σ 0 (0))) 4 4 zk_X22 (show zup M mt _ sr = _ from (zup_n hne).trans hsr) (by decide) q1189 (Or.inl rfl) rfl dX22_own_1 rfl ?_
  refine z_aload_n C 5 1 dX22_own_4 rfl rfl ?_
  refine z_aload_n C 6 0 dX22_own_5 rfl rfl ?_
  refine z_getf C hκ (v := .int (iI (n))) 9 3 zk_X22 (show zup M mt _ sr = _ from (zup_n hne).trans hsr) (by decide) q1188 (Or.inl rfl) rfl dX22_own_6 rfl ?_
  refine z_callVN (As := [.ref (σ 10 (t)), .int (iI (n))]) (rest := []) C hκ hκl hT 12 (k0_ownField (hX.up hmt) hs hw hT (t) (n) r_n ⟨by omega, by omega⟩ hUq9) dX22_own_9 q953 q645 qs4 q90 q646 (zNd_of znX0_ownField) (Nat.le_of_ble_eq_true rfl) (Nat.le_of_ble_eq_true rfl) (Nat.le_of_ble_eq_true rfl) (Nat.le_of_ble_eq_true rfl) (zrec_P (hX.up hmt).o) rfl rfl (Nat.le_of_ble_eq_true rfl) rfl (fun v9 Q9 h9 => ?_)
  obtain ⟨rfl, rfl⟩ := h9
  refine z_as (st' := [va_rf (xo σ 20 (ofI w (t) (n)))]) rfl rfl rfl ?_
  refine z_astore_nq (lv' := [(0, .ref (sr)), (1, .ref (σ 10 (t))), (2, va_rf (xo σ 20 (ofI w (t) (n))))]) C 13 [1, 2, 0] dX22_own_12 (by decide) rfl rfl ?_
  have hr9 := ofI_r (w := w) (t := t) (n := n) (by omega)
  refine z_aload_nq C 14 2 dX22_own_13 rfl rfl ?_
  rcases Int.lt_or_le (ofI w (t) (n)) 0 with n1 | n1
  · skip
    rw [xo_n n1]
    refine z_as (st' := [.null]) (lv' := [(0, .ref (sr)), (1, .ref (σ 10 (t))), (2, .null)]) rfl rfl rfl ?_
    refine z_ifnullN C 37 dX22_own_14 (by decide) ?_
    refine z_aload_nN C 38 2 dX22_own_37 rfl rfl ?_
    exact z_aret C dX22_own_38 (Or.inl ⟨_, rfl⟩) (Or.inl rfl) (Nat.le_of_ble_eq_true rfl) (Nat.le_of_ble_eq_true rfl) ⟨congrArg some (by clear C hκ hκl hS hB hB1 hB2 hB3 hB4 hB5 hB6 hC hw hX hs hT h81 h82; have e9 : xfO w n y t = -1 := (by unfold xfO; first | (rw [if_neg (by omega)]) | (rw [if_neg (by simp_all)])); rw [e9, xo_n (by decide)]; rfl), rfl⟩
  · skip
    rw [xo_y n1]
    refine z_as (st' := [.ref (σ 20 (ofI w (t) (n)))]) (lv' := [(0, .ref (sr)), (1, .ref (σ 10 (t))), (2, .ref (σ 20 (ofI w (t) (n))))]) rfl rfl rfl ?_
    refine z_ifnull C 17 dX22_own_14 rfl ?_
    refine z_aload_n C 18 0 dX22_own_17 rfl rfl ?_
    refine z_getf C hκ (v := .int (iI (y))) 21 1 zk_X22 (show zup M mt _ sr = _ from (zup_n hne).trans hsr) (by decide) q922 (Or.inr q923) rfl dX22_own_18 rfl ?_
    refine z_iconst C 22 dX22_own_21 rfl ?_
    refine z_icmp_ne C 37 25 dX22_own_22 (by decide) r_y ⟨by decide, by decide⟩ rfl (fun c2 => ?_) (fun c2 => ?_)
    · skip
      refine z_aload_n C 38 2 dX22_own_37 rfl rfl ?_
      exact z_aret C dX22_own_38 (Or.inl ⟨_, rfl⟩) (Or.inr ⟨_, rfl⟩) (Nat.le_of_ble_eq_true rfl) (Nat.le_of_ble_eq_true rfl) ⟨congrArg some (by clear C hκ hκl hS hB hB1 hB2 hB3 hB4 hB5 hB6 hC hw hX hs hT h81 h82; have e9 : xfO w n y t = ofI w t n := (by unfold xfO; rw [if_pos ⟨by omega, by simp_all⟩]); rw [e9, xo_y (by omega)]; rfl), rfl⟩
    · skip
      refine z_aload_n C 26 2 dX22_own_25 rfl rfl ?_
      refine z_callV (As := []) (rest := []) C hκ hκl 29 (k9_who (hX.up hmt) hs hw hT (ofI w (t) (n)) ⟨by omega, by omega⟩) dX22_own_26 q954 q955 q956 q103 q957 znX9_who (Nat.le_of_ble_eq_true rfl) (Nat.le_of_ble_eq_true rfl) (Nat.le_of_ble_eq_true rfl) (Nat.le_of_ble_eq_true rfl) (zrec_P ((hX.up hmt).mem (by omega) (by omega))) rfl rfl (Nat.le_of_ble_eq_true rfl) rfl (fun v9 Q9 h9 => ?_)
      obtain ⟨rfl, rfl⟩ := h9
      refine z_as (st' := [.int (iI (whoI w (ofI w (t) (n))))]) rfl rfl rfl ?_
      refine z_iconst C 30 dX22_own_29 rfl ?_
      refine z_icmp_eq C 37 33 dX22_own_30 (by decide) (inR_zand _ _) ⟨by decide, by decide⟩ rfl (fun c3 => ?_) (fun c3 => ?_)
      · skip
        refine z_aload_n C 38 2 dX22_own_37 rfl rfl ?_
        exact z_aret C dX22_own_38 (Or.inl ⟨_, rfl⟩) (Or.inr ⟨_, rfl⟩) (Nat.le_of_ble_eq_true rfl) (Nat.le_of_ble_eq_true rfl) ⟨congrArg some (by clear C hκ hκl hS hB hB1 hB2 hB3 hB4 hB5 hB6 hC hw hX hs hT h81 h82; have e9 : xfO w n y t = ofI w t n := (by unfold xfO; rw [if_pos ⟨by omega, by simp_all⟩]); rw [e9, xo_y (by omega)]; rfl), rfl⟩
      · skip
        refine z_null C 34 dX22_own_33 rfl ?_
        refine z_goto C 38 dX22_own_34 (by decide) ?_
        exact z_aret C dX22_own_38 (Or.inl ⟨_, rfl⟩) (Or.inl rfl) (Nat.le_of_ble_eq_true rfl) (Nat.le_of_ble_eq_true rfl) ⟨congrArg some (by clear C hκ hκl hS hB hB1 hB2 hB3 hB4 hB5 hB6 hC hw hX hs hT h81 h82; have e9 : xfO w n y t = -1 := (by unfold xfO; first | (rw [if_neg (by omega)]) | (rw [if_neg (by simp_all)])); rw [e9, xo_n (by decide)]; rfl), rfl⟩
set_option maxRecDepth 100000 in
theorem k22_isFaceFirst {l : Launch} {θ : zTh} {σ : xA} {w : mW} {M N : zMap} (hX : xM θ σ w (xL w) M) (hs : xS w) (hw : mWF w) (hT : zTb θ) (sr : Nat) (mt : Nat) (y : Int) (n : Int) (V : Int → Bool)  (r_y : inR y) (r_n : inR n) (hsr : M sr = some (.inr (22, [.ref mt, .int (iI y), .ref (σ 0 (0)), .int (iI n), .ref (σ 0 (0))]))) (hne : sr ≠ mt) (hmt : xFr σ w (xL w) mt) (hUq : xUq w) : ZM θ l yX22_isFaceFirst cX22_isFaceFirst 1 (some .boolean) ⟨0, 0, 0, 0⟩ [.ref (sr)] (zP θ (zup M mt (metE θ V)) N) (zFn (some (.int (iI (bI (decide (y = 1)))))) (zP θ (zup M mt (metE θ V)) N)) := by
  refine z_start (own := RX22) (nm := "isFaceFirst") pnX22 rfl rfl (Nat.le_of_ble_eq_true rfl) ?_
  intro κ hκ hκl C
  change Z κ (zP θ (zup M mt (metE θ V)) N) 0 0 0 [(0, .ref (sr))] []
  have hS := hs.S
  have hB := hS.B
  obtain ⟨hB1, hB2, hB3, hB4, hB5, hB6⟩ := hS.B
  have hC := hS.C
  obtain ⟨h81, h82⟩ := hs.r8
  have hUq9 := hUq
  refine z_aload_n C 1 0 dX22_isFaceFirst_0 rfl rfl ?_
  refine z_getf C hκ (v := .int (iI (y))) 4 1 zk_X22 (show zup M mt _ sr = _ from (zup_n hne).trans hsr) (by decide) q922 (Or.inr q923) rfl dX22_isFaceFirst_1 rfl ?_
  refine z_iconst C 5 dX22_isFaceFirst_4 rfl ?_
  refine z_icmp_ne C 12 8 dX22_isFaceFirst_5 (by decide) r_y ⟨by decide, by decide⟩ rfl (fun c1 => ?_) (fun c1 => ?_)
  · skip
    refine z_iconst C 13 dX22_isFaceFirst_12 rfl ?_
    refine z_as (st' := [.int (iI (bI (false)))]) rfl rfl rfl ?_
    exact z_iret C dX22_isFaceFirst_13 (bI_nar _) (Nat.le_of_ble_eq_true rfl) (Nat.le_of_ble_eq_true rfl) ⟨congrArg (fun b => some (Value.int (iI (bI b)))) (by clear C hκ hκl hS hB hB1 hB2 hB3 hB4 hB5 hB6 hC hw hX hs hT h81 h82; simp_all), rfl⟩
  · skip
    refine z_iconst C 9 dX22_isFaceFirst_8 rfl ?_
    refine z_goto C 13 dX22_isFaceFirst_9 (by decide) ?_
    refine z_as (st' := [.int (iI (bI (true)))]) rfl rfl rfl ?_
    exact z_iret C dX22_isFaceFirst_13 (bI_nar _) (Nat.le_of_ble_eq_true rfl) (Nat.le_of_ble_eq_true rfl) ⟨congrArg (fun b => some (Value.int (iI (bI b)))) (by clear C hκ hκl hS hB hB1 hB2 hB3 hB4 hB5 hB6 hC hw hX hs hT h81 h82; simp_all), rfl⟩
set_option maxRecDepth 100000 in
theorem k19_inParent_22 {l : Launch} {θ : zTh} {σ : xA} {w : mW} {M N : zMap} (hX : xM θ σ w (xL w) M) (hs : xS w) (hw : mWF w) (hT : zTb θ) (sr : Nat) (mt : Nat) (y : Int) (n : Int) (fv : Nat) (t : Int) (V : Int → Bool)  (ht : 0 ≤ t ∧ t < w 0 0) (hfu : t < fv + 1) (r_y : inR y) (r_n : inR n) (hsr : M sr = some (.inr (22, [.ref mt, .int (iI y), .ref (σ 0 (0)), .int (iI n), .ref (σ 0 (0))]))) (hne : sr ≠ mt) (hmt : xFr σ w (xL w) mt) (hUq : xUq w) (ih : xSr l θ σ w M N sr mt (xfO w n y) (xCh w y (!decide (y = 1))) fv) : ZM θ l yX19_inParent cX19_inParent 2 (some (.object "ReflectMirror$Member")) ⟨2 * fv + 13, 0, 0, 60 * fv + 430⟩ [.ref (sr), .ref (σ 10 (t))] (zP θ (zup M mt (metE θ V)) N) (zFn (some (va_rf (xo σ 20 ((sL (xfO w n y) (xCh w y (!decide (y = 1))) fv (upL w t) V).1)))) (zP θ (zup M mt (metE θ ((sL (xfO w n y) (xCh w y (!decide (y = 1))) fv (upL w t) V).2))) N)) := by
  refine z_start (own := RX19) (nm := "inParent") pnX19 rfl rfl (Nat.le_of_ble_eq_true rfl) ?_
  intro κ hκ hκl C
  change Z κ (zP θ (zup M mt (metE θ V)) N) 0 0 0 [(0, .ref (sr)), (1, .ref (σ 10 (t)))] []
  have hS := hs.S
  have hB := hS.B
  obtain ⟨hB1, hB2, hB3, hB4, hB5, hB6⟩ := hS.B
  have hC := hS.C
  obtain ⟨h81, h82⟩ := hs.r8
  have hUq9 := hUq
  obtain ⟨f1a, f1b, f1c, f1d, f1e, f1f, f1g, f1h⟩ := hS.T (show 0 ≤ t by omega) (by omega)
  obtain ⟨f1i, f1j, f1k, f1l⟩ := hs.ty (show 0 ≤ t by omega) (by omega)
  have hor : ∀ u, -1 ≤ (xfO w n y) u ∧ (xfO w n y) u < w 11 0 := fun u => xfO_r (by omega)
  refine z_aload_n C 1 1 dX19_inParent_0 rfl rfl ?_
  refine xv_parent (rest := []) C hκ hκl (hX.up hmt) hs hw hT (t)   ⟨(by omega), (by omega)⟩  4 dX19_inParent_1 q982 (Nat.le_of_ble_eq_true rfl) (Nat.le_of_ble_eq_true rfl) (Nat.le_of_ble_eq_true rfl) (Nat.le_of_ble_eq_true rfl) (Nat.le_of_ble_eq_true rfl) rfl ?_
  refine z_as (st' := [va_rf (xo σ 10 (w 2 (t)))]) rfl rfl rfl ?_
  rcases Int.lt_or_le (w 2 (t)) 0 with n2 | n2
  · skip
    rw [xo_n n2]
    refine z_as (st' := [.null]) (lv' := [(0, .ref (sr)), (1, .ref (σ 10 (t)))]) rfl rfl rfl ?_
    refine z_ifnonnullN C 7 dX19_inParent_4 rfl ?_
    refine z_null C 8 dX19_inParent_7 rfl ?_
    refine z_goto C 19 dX19_inParent_8 (by decide) ?_
    exact z_aret C dX19_inParent_19 (Or.inl ⟨_, rfl⟩) (Or.inl rfl) (Nat.le_of_ble_eq_true rfl) (Nat.le_of_ble_eq_true rfl) ⟨congrArg some (by unfold upL; rw [if_neg (by omega), sL_nil, xo_n (show ((-1 : Int), V).1 < 0 from (by decide : (-1 : Int) < 0))]; rfl), (congrArg (fun z9 => zP θ (zup M mt (metE θ z9)) N) (by unfold upL; rw [if_neg (by omega), sL_nil]))⟩
  · skip
    rw [xo_y n2]
    refine z_as (st' := [.ref (σ 10 (w 2 (t)))]) (lv' := [(0, .ref (sr)), (1, .ref (σ 10 (t)))]) rfl rfl rfl ?_
    refine z_ifnonnull C 11 dX19_inParent_4 (by decide) ?_
    refine z_aload_n C 12 0 dX19_inParent_11 rfl rfl ?_
    refine z_aload_n C 13 1 dX19_inParent_12 rfl rfl ?_
    refine xv_parent (rest := [.ref (sr)]) C hκ hκl (hX.up hmt) hs hw hT (t)   ⟨(by omega), (by omega)⟩  16 dX19_inParent_13 q982 (Nat.le_of_ble_eq_true rfl) (Nat.le_of_ble_eq_true rfl) (Nat.le_of_ble_eq_true rfl) (Nat.le_of_ble_eq_true rfl) (Nat.le_of_ble_eq_true rfl) rfl ?_
    refine z_as (st' := [va_rf (xo σ 10 (w 2 (t))), .ref (sr)]) rfl rfl rfl ?_
    have y3 : 0 ≤ w 2 (t) := (by omega)
    rw [xo_y y3]
    refine z_as (st' := [.ref (σ 10 (w 2 (t))), .ref (sr)]) (lv' := [(0, .ref (sr)), (1, .ref (σ 10 (t)))]) rfl rfl rfl ?_
    obtain ⟨f4a, f4b, f4c, f4d, f4e, f4f, f4g, f4h⟩ := hS.T (show 0 ≤ w 2 (t) by omega) (by omega)
    obtain ⟨f4i, f4j, f4k, f4l⟩ := hs.ty (show 0 ≤ w 2 (t) by omega) (by omega)
    refine z_callU (owner := RX19) (As := [.ref (σ 10 (w 2 (t)))]) (rest := []) C hκ hκl 19 (ih (w 2 (t)) (V) ⟨by omega, by omega⟩ (by omega)) dX19_inParent_16 q977 q2574 q2575 q944 q113 q945 rfl ⟨by decide, by decide, rfl⟩ (by dsimp only; omega) (by dsimp only; omega) (Nat.le_of_ble_eq_true rfl) (Nat.le_of_ble_eq_true rfl) (zrec_P (show zup M mt _ sr = _ from (zup_n hne).trans hsr)) rfl rfl (Nat.le_of_ble_eq_true rfl) rfl (fun v9 Q9 h9 => ?_)
    obtain ⟨rfl, rfl⟩ := h9
    have hsr9 := sF_r (o := (xfO w n y)) (ch := (xCh w y (!decide (y = 1)))) (N := w 11 0) hor (by omega) fv (w 2 (t)) (V)
    refine z_as (st' := [va_rf (xo σ 20 ((sF (xfO w n y) (xCh w y (!decide (y = 1))) fv (w 2 (t)) (V)).1))]) rfl rfl rfl ?_
    exact z_aret C dX19_inParent_19 (Or.inl ⟨_, rfl⟩) (z_rfv _) (Nat.le_of_ble_eq_true rfl) (Nat.le_of_ble_eq_true rfl) ⟨congrArg some (by unfold upL; rw [if_pos (by omega), sL_one]), (congrArg (fun z9 => zP θ (zup M mt (metE θ z9)) N) (by unfold upL; rw [if_pos (by omega), sL_one]))⟩
set_option maxRecDepth 100000 in
theorem k19_inFaces_22 {l : Launch} {θ : zTh} {σ : xA} {w : mW} {M N : zMap} (hX : xM θ σ w (xL w) M) (hs : xS w) (hw : mWF w) (hT : zTb θ) (sr : Nat) (mt : Nat) (y : Int) (n : Int) (fv : Nat) (t : Int) (V : Int → Bool)  (ht : 0 ≤ t ∧ t < w 0 0) (hfu : t < fv + 1) (r_y : inR y) (r_n : inR n) (hsr : M sr = some (.inr (22, [.ref mt, .int (iI y), .ref (σ 0 (0)), .int (iI n), .ref (σ 0 (0))]))) (hne : sr ≠ mt) (hmt : xFr σ w (xL w) mt) (hUq : xUq w) (ih : xSr l θ σ w M N sr mt (xfO w n y) (xCh w y (!decide (y = 1))) fv) : ZM θ l yX19_inFaces cX19_inFaces 4 (some (.object "ReflectMirror$Member")) ⟨2 * fv + 13, 0, 0, 60 * fv + 430⟩ [.ref (sr), .ref (σ 10 (t))] (zP θ (zup M mt (metE θ V)) N) (zFn (some (va_rf (xo σ 20 ((sL (xfO w n y) (xCh w y (!decide (y = 1))) fv (fcL w t ((w 6 t).toNat)) V).1)))) (zP θ (zup M mt (metE θ ((sL (xfO w n y) (xCh w y (!decide (y = 1))) fv (fcL w t ((w 6 t).toNat)) V).2))) N)) := by
  refine z_start (own := RX19) (nm := "inFaces") pnX19 rfl rfl (Nat.le_of_ble_eq_true rfl) ?_
  intro κ hκ hκl C
  change Z κ (zP θ (zup M mt (metE θ V)) N) 0 0 0 [(0, .ref (sr)), (1, .ref (σ 10 (t)))] []
  have hS := hs.S
  have hB := hS.B
  obtain ⟨hB1, hB2, hB3, hB4, hB5, hB6⟩ := hS.B
  have hC := hS.C
  obtain ⟨h81, h82⟩ := hs.r8
  have hUq9 := hUq
  obtain ⟨f1a, f1b, f1c, f1d, f1e, f1f, f1g, f1h⟩ := hS.T (show 0 ≤ t by omega) (by omega)
  obtain ⟨f1i, f1j, f1k, f1l⟩ := hs.ty (show 0 ≤ t by omega) (by omega)
  have hor : ∀ u, -1 ≤ (xfO w n y) u ∧ (xfO w n y) u < w 11 0 := fun u => xfO_r (by omega)
  refine z_null C 1 dX19_inFaces_0 rfl ?_
  refine z_astore_nN (lv' := [(0, .ref (sr)), (1, .ref (σ 10 (t))), (2, .null)]) C 2 [1, 2, 0] dX19_inFaces_1 (by decide) rfl rfl ?_
  refine z_iconst C 3 dX19_inFaces_2 rfl ?_
  refine z_istore_n (lv' := [(0, .ref (sr)), (1, .ref (σ 10 (t))), (2, .null), (3, .int (iI (0)))]) C 4 [1, 2, 3, 0] dX19_inFaces_3 (by decide) rfl rfl ?_
  have L4_2 : ∀ (fu : Nat) (k : Nat) (z : Int) (V1 : Int → Bool) (hk : (k : Int) ≤ w 6 t) (hz : (sL (xfO w n y) (xCh w y (!decide (y = 1))) fv (fcL w t (k)) V).1 = z) (hv : (sL (xfO w n y) (xCh w y (!decide (y = 1))) fv (fcL w t (k)) V).2 = V1) (hzr : -1 ≤ z ∧ z < w 11 0) (hme : (w 6 t).toNat - k < fu), Z κ (zP θ (zup M mt (metE θ V1)) N) 0 0 4 [(0, .ref (sr)), (1, .ref (σ 10 (t))), (2, va_rf (xo σ 20 (z))), (3, .int (iI ((k : Int))))] [] := by
    intro fu
    induction fu with
    | zero => intro k z V1 hk hz hv hzr hme; exact absurd hme (Nat.not_lt_zero _)
    | succ fu ih3 =>
      intro k z V1 hk hz hv hzr hme
      refine z_iload_n C 5 3 dX19_inFaces_4 rfl rfl ?_
      refine z_aload_n C 6 1 dX19_inFaces_5 rfl rfl ?_
      refine x_tget (v := .int (iI (w 6 (t)))) C hκ 9 3 (hX.up hmt) hs (by omega) (by omega) (by decide) rfl rfl rfl q187 (Or.inl rfl) rfl dX19_inFaces_6 rfl ?_
      refine z_icmp_ge C 33 12 dX19_inFaces_9 (by decide) ⟨by omega, by omega⟩ (hw.r _ _ rfl) rfl (fun c4 => ?_) (fun c4 => ?_)
      · skip
        have hfin : z = (sL (xfO w n y) (xCh w y (!decide (y = 1))) fv (fcL w t ((w 6 t).toNat)) V).1 ∧ V1 = (sL (xfO w n y) (xCh w y (!decide (y = 1))) fv (fcL w t ((w 6 t).toNat)) V).2 := by
          first
            | (have e : k = (w 6 t).toNat := (by omega); rw [← e]; exact ⟨hz.symm, hv.symm⟩)
            | (have e : ∀ j, k ≤ j → sL (xfO w n y) (xCh w y (!decide (y = 1))) fv (fcL w t (j)) V = sL (xfO w n y) (xCh w y (!decide (y = 1))) fv (fcL w t (k)) V := (fun j hj => by induction hj with | refl => rfl | step _ ih9 => rw [sL_fc, if_pos (by rw [ih9, hz]; omega), ih9]); rw [e _ (by omega)]; exact ⟨hz.symm, hv.symm⟩)
        refine z_aload_nq C 34 2 dX19_inFaces_33 rfl rfl ?_
        exact z_aret C dX19_inFaces_34 (Or.inl ⟨_, rfl⟩) (z_rfv _) (Nat.le_of_ble_eq_true rfl) (Nat.le_of_ble_eq_true rfl) ⟨congrArg some (by rw [← hfin.1]), (congrArg (fun z9 => zP θ (zup M mt (metE θ z9)) N) hfin.2)⟩
      · skip
        refine z_aload_nq C 13 2 dX19_inFaces_12 rfl rfl ?_
        rcases Int.lt_or_le (z) 0 with n5 | n5
        · skip
          rw [xo_n n5]
          refine z_as (st' := [.null]) (lv' := [(0, .ref (sr)), (1, .ref (σ 10 (t))), (2, .null), (3, .int (iI ((k : Int))))]) rfl rfl rfl ?_
          refine z_ifnonnullN C 16 dX19_inFaces_13 rfl ?_
          have hf7 := (hS.T ht.1 ht.2).2.2.1 k (by omega) (by omega)
          refine z_aload_n C 17 0 dX19_inFaces_16 rfl rfl ?_
          refine z_aload_n C 18 1 dX19_inFaces_17 rfl rfl ?_
          refine x_tget (v := .ref (σ 11 (t))) C hκ 21 2 (hX.up hmt) hs (by omega) (by omega) (by decide) rfl rfl rfl q183 (Or.inl rfl) rfl dX19_inFaces_18 rfl ?_
          refine z_iload_n C 22 3 dX19_inFaces_21 rfl rfl ?_
          refine x_afc C hκ 23 (hX.up hmt) hs (by omega) (by omega) (by omega) (by omega) dX19_inFaces_22 rfl ?_
          obtain ⟨f6a, f6b, f6c, f6d, f6e, f6f, f6g, f6h⟩ := hS.T (show 0 ≤ w 7 (3 * (t) + ((k : Int))) by omega) (by omega)
          obtain ⟨f6i, f6j, f6k, f6l⟩ := hs.ty (show 0 ≤ w 7 (3 * (t) + ((k : Int))) by omega) (by omega)
          refine z_callU (owner := RX19) (As := [.ref (σ 10 (w 7 (3 * (t) + ((k : Int)))))]) (rest := []) C hκ hκl 26 (ih (w 7 (3 * (t) + ((k : Int)))) (V1) ⟨by omega, by omega⟩ (by omega)) dX19_inFaces_23 q977 q2574 q2575 q944 q113 q945 rfl ⟨by decide, by decide, rfl⟩ (by dsimp only; omega) (by dsimp only; omega) (Nat.le_of_ble_eq_true rfl) (Nat.le_of_ble_eq_true rfl) (zrec_P (show zup M mt _ sr = _ from (zup_n hne).trans hsr)) rfl rfl (Nat.le_of_ble_eq_true rfl) rfl (fun v9 Q9 h9 => ?_)
          obtain ⟨rfl, rfl⟩ := h9
          have hsr9 := sF_r (o := (xfO w n y)) (ch := (xCh w y (!decide (y = 1)))) (N := w 11 0) hor (by omega) fv (w 7 (3 * (t) + ((k : Int)))) (V1)
          refine z_as (st' := [va_rf (xo σ 20 ((sF (xfO w n y) (xCh w y (!decide (y = 1))) fv (w 7 (3 * (t) + ((k : Int)))) (V1)).1))]) rfl rfl rfl ?_
          refine z_astore_nq (lv' := [(0, .ref (sr)), (1, .ref (σ 10 (t))), (2, va_rf (xo σ 20 ((sF (xfO w n y) (xCh w y (!decide (y = 1))) fv (w 7 (3 * (t) + ((k : Int)))) (V1)).1))), (3, .int (iI ((k : Int))))]) C 27 [1, 2, 0, 3] dX19_inFaces_26 (by decide) rfl rfl ?_
          refine z_iinc (lv' := [(0, .ref (sr)), (1, .ref (σ 10 (t))), (2, va_rf (xo σ 20 ((sF (xfO w n y) (xCh w y (!decide (y = 1))) fv (w 7 (3 * (t) + ((k : Int)))) (V1)).1))), (3, .int (iI (((k : Int)) + 1)))]) C 30 3 [1, 2, 3, 0] dX19_inFaces_27 rfl (by decide) (by cases (xo σ 20 ((sF (xfO w n y) (xCh w y (!decide (y = 1))) fv (w 7 (3 * (t) + ((k : Int)))) (V1)).1)) <;> rfl) rfl ?_
          refine z_goto C 4 dX19_inFaces_30 (by decide) ?_
          have hst := sL_fc (w := w) (o := (xfO w n y)) (ch := (xCh w y (!decide (y = 1)))) (n := fv) (t := t) (k := k) (V := V)
          rw [if_neg (by rw [hz]; omega), hv] at hst
          refine z_as (lv' := [(0, .ref (sr)), (1, .ref (σ 10 (t))), (2, va_rf (xo σ 20 (((sF (xfO w n y) (xCh w y (!decide (y = 1))) fv (w 7 (3 * t + (k : Int))) V1).1)))), (3, .int (iI (((k + 1) : Int))))]) rfl rfl rfl ?_
          exact ih3 (k + 1) ((sF (xfO w n y) (xCh w y (!decide (y = 1))) fv (w 7 (3 * t + (k : Int))) V1).1) ((sF (xfO w n y) (xCh w y (!decide (y = 1))) fv (w 7 (3 * t + (k : Int))) V1).2) (by omega) (by rw [hst]) (by rw [hst]) hsr9 (by omega)
        · skip
          rw [xo_y n5]
          refine z_as (st' := [.ref (σ 20 (z))]) (lv' := [(0, .ref (sr)), (1, .ref (σ 10 (t))), (2, .ref (σ 20 (z))), (3, .int (iI ((k : Int))))]) rfl rfl rfl ?_
          refine z_ifnonnull C 33 dX19_inFaces_13 (by decide) ?_
          have hfin : z = (sL (xfO w n y) (xCh w y (!decide (y = 1))) fv (fcL w t ((w 6 t).toNat)) V).1 ∧ V1 = (sL (xfO w n y) (xCh w y (!decide (y = 1))) fv (fcL w t ((w 6 t).toNat)) V).2 := by
            first
              | (have e : k = (w 6 t).toNat := (by omega); rw [← e]; exact ⟨hz.symm, hv.symm⟩)
              | (have e : ∀ j, k ≤ j → sL (xfO w n y) (xCh w y (!decide (y = 1))) fv (fcL w t (j)) V = sL (xfO w n y) (xCh w y (!decide (y = 1))) fv (fcL w t (k)) V := (fun j hj => by induction hj with | refl => rfl | step _ ih9 => rw [sL_fc, if_pos (by rw [ih9, hz]; omega), ih9]); rw [e _ (by omega)]; exact ⟨hz.symm, hv.symm⟩)
          refine z_aload_n C 34 2 dX19_inFaces_33 rfl rfl ?_
          exact z_aret C dX19_inFaces_34 (Or.inl ⟨_, rfl⟩) (Or.inr ⟨_, rfl⟩) (Nat.le_of_ble_eq_true rfl) (Nat.le_of_ble_eq_true rfl) ⟨congrArg some (by rw [← hfin.1]; rw [xo_y (by omega)]; rfl), (congrArg (fun z9 => zP θ (zup M mt (metE θ z9)) N) hfin.2)⟩
  refine z_as (lv' := [(0, .ref (sr)), (1, .ref (σ 10 (t))), (2, va_rf (xo σ 20 (-1))), (3, .int (iI (0)))]) rfl ((congrArg (fun z9 : Value => ([(0, .ref (sr)), (1, .ref (σ 10 (t))), (2, z9), (3, .int (iI (0)))] : List (Nat × Value))) (show .null = va_rf (xo σ 20 (-1)) from (by rw [xo_n (show -1 < 0 by omega)]; rfl)))) rfl ?_
  refine z_as (lv' := [(0, .ref (sr)), (1, .ref (σ 10 (t))), (2, va_rf (xo σ 20 ((-1)))), (3, .int (iI (((0) : Int))))]) rfl rfl rfl ?_
  exact L4_2 _ (0) (-1) (V) (by omega) rfl rfl ⟨by omega, by omega⟩ (Nat.lt_succ_self _)
set_option maxRecDepth 100000 in
theorem k19_from_22 {l : Launch} {θ : zTh} {σ : xA} {w : mW} {M N : zMap} (hX : xM θ σ w (xL w) M) (hs : xS w) (hw : mWF w) (hT : zTb θ) (sr : Nat) (mt : Nat) (y : Int) (n : Int) (fv : Nat) (t : Int) (V : Int → Bool)  (ht : 0 ≤ t ∧ t < w 0 0) (hfu : t < fv + 1) (r_y : inR y) (r_n : inR n) (hsr : M sr = some (.inr (22, [.ref mt, .int (iI y), .ref (σ 0 (0)), .int (iI n), .ref (σ 0 (0))]))) (hne : sr ≠ mt) (hmt : xFr σ w (xL w) mt) (hUq : xUq w) (ih : xSr l θ σ w M N sr mt (xfO w n y) (xCh w y (!decide (y = 1))) fv) : ZM θ l yX19_from cX19_from 3 (some (.object "ReflectMirror$Member")) ⟨2 * (fv + 1) + 12, 0, 0, 60 * (fv + 1) + 400⟩ [.ref (sr), .ref (σ 10 (t))] (zP θ (zup M mt (metE θ V)) N) (zFn (some (va_rf (xo σ 20 ((sF (xfO w n y) (xCh w y (!decide (y = 1))) (fv + 1) t V).1)))) (zP θ (zup M mt (metE θ ((sF (xfO w n y) (xCh w y (!decide (y = 1))) (fv + 1) t V).2))) N)) := by
  refine z_start (own := RX19) (nm := "from") pnX19 rfl rfl (Nat.le_of_ble_eq_true rfl) ?_
  intro κ hκ hκl C
  change Z κ (zP θ (zup M mt (metE θ V)) N) 0 0 0 [(0, .ref (sr)), (1, .ref (σ 10 (t)))] []
  have hS := hs.S
  have hB := hS.B
  obtain ⟨hB1, hB2, hB3, hB4, hB5, hB6⟩ := hS.B
  have hC := hS.C
  obtain ⟨h81, h82⟩ := hs.r8
  have hUq9 := hUq
  obtain ⟨f1a, f1b, f1c, f1d, f1e, f1f, f1g, f1h⟩ := hS.T (show 0 ≤ t by omega) (by omega)
  obtain ⟨f1i, f1j, f1k, f1l⟩ := hs.ty (show 0 ≤ t by omega) (by omega)
  have hor : ∀ u, -1 ≤ (xfO w n y) u ∧ (xfO w n y) u < w 11 0 := fun u => xfO_r (by omega)
  refine z_aload_n C 1 0 dX19_from_0 rfl rfl ?_
  refine z_getf C hκ (v := .ref (mt)) 4 0 zk_X22 (show zup M mt _ sr = _ from (zup_n hne).trans hsr) (by decide) q920 (Or.inl rfl) rfl dX19_from_1 rfl ?_
  refine z_aload_n C 5 1 dX19_from_4 rfl rfl ?_
  refine xv_number (rest := [.ref (mt)]) C hκ hκl (hX.up hmt) hs hw hT (t)   ⟨(by omega), (by omega)⟩  8 dX19_from_5 q946 (Nat.le_of_ble_eq_true rfl) (Nat.le_of_ble_eq_true rfl) (Nat.le_of_ble_eq_true rfl) (Nat.le_of_ble_eq_true rfl) (Nat.le_of_ble_eq_true rfl) rfl ?_
  refine z_as (st' := [.int (iI ((t))), .ref (mt)]) rfl rfl rfl ?_
  refine z_zald (v := iI (bI (V t))) C hκ 9 (zup_s (M := M) (a := mt) (e := metE θ V)) (by omega) (by omega) (by decide) (metE_at (by omega)) dX19_from_8 rfl ?_
  refine z_ifB_eq C 14 12 dX19_from_9 (by decide) rfl (fun c2 => ?_) (fun c2 => ?_)
  · skip
    refine z_aload_n C 15 0 dX19_from_14 rfl rfl ?_
    refine z_getf C hκ (v := .ref (mt)) 18 0 zk_X22 (show zup M mt _ sr = _ from (zup_n hne).trans hsr) (by decide) q920 (Or.inl rfl) rfl dX19_from_15 rfl ?_
    refine z_aload_n C 19 1 dX19_from_18 rfl rfl ?_
    refine xv_number (rest := [.ref (mt)]) C hκ hκl (hX.up hmt) hs hw hT (t)   ⟨(by omega), (by omega)⟩  22 dX19_from_19 q946 (Nat.le_of_ble_eq_true rfl) (Nat.le_of_ble_eq_true rfl) (Nat.le_of_ble_eq_true rfl) (Nat.le_of_ble_eq_true rfl) (Nat.le_of_ble_eq_true rfl) rfl ?_
    refine z_as (st' := [.int (iI ((t))), .ref (mt)]) rfl rfl rfl ?_
    refine z_iconst C 23 dX19_from_22 rfl ?_
    refine z_zast C hκ 24 (zup_s (M := M) (a := mt) (e := metE θ V)) (by omega) (by omega) (by decide) (by decide) (metE_up (V := V) (t := t) (by omega)) dX19_from_23 rfl ?_
    refine z_as (Pic' := zP θ (zup M mt (metE θ (vAdd V t))) N) (congrArg (fun z9 => zP θ z9 N) zup_up) rfl rfl ?_
    refine z_aload_n C 25 0 dX19_from_24 rfl rfl ?_
    refine z_aload_n C 26 1 dX19_from_25 rfl rfl ?_
    refine z_callA (owner := RX19) (As := [.ref (σ 10 (t))]) (rest := []) C hκ hκl hT 29 (k22_own hX hs hw hT (sr) (mt) (y) (n) (t) (vAdd V t) ⟨by omega, by omega⟩ r_y r_n hsr hne hmt hUq9) dX19_from_26 q947 q949 q948 q950 q951 q117 q952 ⟨by decide, by decide, rfl⟩ (by dsimp only; omega) (by dsimp only; omega) (Nat.le_of_ble_eq_true rfl) (Nat.le_of_ble_eq_true rfl) (zrec_P (show zup M mt _ sr = _ from (zup_n hne).trans hsr)) rfl rfl (Nat.le_of_ble_eq_true rfl) rfl (fun v9 Q9 h9 => ?_)
    obtain ⟨rfl, rfl⟩ := h9
    refine z_as (st' := [va_rf (xo σ 20 ((xfO w (n) (y)) (t)))]) rfl rfl rfl ?_
    have hoo := hor t
    refine z_astore_nq (lv' := [(0, .ref (sr)), (1, .ref (σ 10 (t))), (2, va_rf (xo σ 20 ((xfO w (n) (y)) (t))))]) C 30 [1, 2, 0] dX19_from_29 (by decide) rfl rfl ?_
    refine z_aload_nq C 31 2 dX19_from_30 rfl rfl ?_
    rcases Int.lt_or_le ((xfO w (n) (y)) (t)) 0 with n3 | n3
    · skip
      rw [xo_n n3]
      refine z_as (st' := [.null]) (lv' := [(0, .ref (sr)), (1, .ref (σ 10 (t))), (2, .null)]) rfl rfl rfl ?_
      refine z_ifnonnullN C 34 dX19_from_31 rfl ?_
      refine z_aload_n C 35 0 dX19_from_34 rfl rfl ?_
      refine z_getf C hκ (v := .int (iI (y))) 38 1 zk_X22 (show zup M mt _ sr = _ from (zup_n hne).trans hsr) (by decide) q921 (Or.inl rfl) rfl dX19_from_35 rfl ?_
      refine z_if_ne C 43 41 dX19_from_38 (by decide) r_y rfl (fun c4 => ?_) (fun c4 => ?_)
      · skip
        refine z_aload_n C 44 0 dX19_from_43 rfl rfl ?_
        refine z_callO (owner := RX19) (As := []) (rest := []) C hκ hκl 47 (k22_isFaceFirst hX hs hw hT (sr) (mt) (y) (n) (vAdd V t) r_y r_n hsr hne hmt hUq9) dX19_from_44 q965 q967 q966 q972 q968 q969 q117 q970 ⟨by decide, by decide, rfl⟩ (by dsimp only; omega) (by dsimp only; omega) (Nat.le_of_ble_eq_true rfl) (Nat.le_of_ble_eq_true rfl) (zrec_P (show zup M mt _ sr = _ from (zup_n hne).trans hsr)) rfl rfl (Nat.le_of_ble_eq_true rfl) rfl (fun v9 Q9 h9 => ?_)
        obtain ⟨rfl, rfl⟩ := h9
        refine z_as (st' := [.int (iI (bI (decide ((y) = 1))))]) rfl rfl rfl ?_
        refine z_ifB_eq C 58 50 dX19_from_47 (by decide) rfl (fun c5 => ?_) (fun c5 => ?_)
        · skip
          have c5b : ¬ (((y) = 1)) := of_decide_eq_false c5
          refine z_aload_n C 59 0 dX19_from_58 rfl rfl ?_
          refine z_aload_n C 60 1 dX19_from_59 rfl rfl ?_
          refine z_callP (As := [.ref (σ 10 (t))]) (rest := []) C hκ hκl hT 63 (k19_inParent_22 hX hs hw hT sr mt y n fv t (vAdd V t) ht hfu r_y r_n hsr hne hmt hUq9 ih) dX19_from_60 q978 q980 q979 q943 rfl q113 q981 (zNd_of znX19_inParent) (by dsimp only; omega) (by dsimp only; omega) (Nat.le_of_ble_eq_true rfl) (Nat.le_of_ble_eq_true rfl) (zrec_P (show zup M mt _ sr = _ from (zup_n hne).trans hsr)) rfl rfl (Nat.le_of_ble_eq_true rfl) rfl (fun v9 Q9 h9 => ?_)
          obtain ⟨rfl, rfl⟩ := h9
          have hL6 := sL_r (o := (xfO w n y)) (ch := (xCh w y (!decide (y = 1)))) (N := w 11 0) hor (by omega) fv (upL w t) (vAdd V t)
          refine z_as (st' := [va_rf (xo σ 20 ((sL (xfO w n y) (xCh w y (!decide (y = 1))) fv (upL w t) (vAdd V t)).1))]) rfl rfl rfl ?_
          refine z_astore_nq (lv' := [(0, .ref (sr)), (1, .ref (σ 10 (t))), (2, va_rf (xo σ 20 ((sL (xfO w n y) (xCh w y (!decide (y = 1))) fv (upL w t) (vAdd V t)).1)))]) C 64 [1, 2, 0] dX19_from_63 (by decide) rfl rfl ?_
          refine z_aload_nq C 65 2 dX19_from_64 rfl rfl ?_
          rcases Int.lt_or_le ((sL (xfO w n y) (xCh w y (!decide (y = 1))) fv (upL w t) (vAdd V t)).1) 0 with n7 | n7
          · skip
            rw [xo_n n7]
            refine z_as (st' := [.null]) (lv' := [(0, .ref (sr)), (1, .ref (σ 10 (t))), (2, .null)]) rfl rfl rfl ?_
            refine z_ifnullN C 72 dX19_from_65 (by decide) ?_
            refine z_aload_n C 73 0 dX19_from_72 rfl rfl ?_
            refine z_callO (owner := RX19) (As := []) (rest := []) C hκ hκl 76 (k22_isFaceFirst hX hs hw hT (sr) (mt) (y) (n) ((sL (xfO w n y) (xCh w y (!decide (y = 1))) fv (upL w t) (vAdd V t)).2) r_y r_n hsr hne hmt hUq9) dX19_from_73 q965 q967 q966 q972 q968 q969 q117 q970 ⟨by decide, by decide, rfl⟩ (by dsimp only; omega) (by dsimp only; omega) (Nat.le_of_ble_eq_true rfl) (Nat.le_of_ble_eq_true rfl) (zrec_P (show zup M mt _ sr = _ from (zup_n hne).trans hsr)) rfl rfl (Nat.le_of_ble_eq_true rfl) rfl (fun v9 Q9 h9 => ?_)
            obtain ⟨rfl, rfl⟩ := h9
            refine z_as (st' := [.int (iI (bI (decide ((y) = 1))))]) rfl rfl rfl ?_
            refine z_ifB_eq C 87 79 dX19_from_76 (by decide) rfl (fun c8 => ?_) (fun c8 => ?_)
            · skip
              have c8b : ¬ (((y) = 1)) := of_decide_eq_false c8
              refine z_aload_n C 88 0 dX19_from_87 rfl rfl ?_
              refine z_aload_n C 89 1 dX19_from_88 rfl rfl ?_
              refine z_callP (As := [.ref (σ 10 (t))]) (rest := []) C hκ hκl hT 92 (k19_inFaces_22 hX hs hw hT sr mt y n fv t ((sL (xfO w n y) (xCh w y (!decide (y = 1))) fv (upL w t) (vAdd V t)).2) ht hfu r_y r_n hsr hne hmt hUq9 ih) dX19_from_89 q973 q975 q974 q943 rfl q113 q976 (zNd_of znX19_inFaces) (by dsimp only; omega) (by dsimp only; omega) (Nat.le_of_ble_eq_true rfl) (Nat.le_of_ble_eq_true rfl) (zrec_P (show zup M mt _ sr = _ from (zup_n hne).trans hsr)) rfl rfl (Nat.le_of_ble_eq_true rfl) rfl (fun v9 Q9 h9 => ?_)
              obtain ⟨rfl, rfl⟩ := h9
              have hL9 := sL_r (o := (xfO w n y)) (ch := (xCh w y (!decide (y = 1)))) (N := w 11 0) hor (by omega) fv (fcL w t (w 6 t).toNat) ((sL (xfO w n y) (xCh w y (!decide (y = 1))) fv (upL w t) (vAdd V t)).2)
              refine z_as (st' := [va_rf (xo σ 20 ((sL (xfO w n y) (xCh w y (!decide (y = 1))) fv (fcL w t (w 6 t).toNat) ((sL (xfO w n y) (xCh w y (!decide (y = 1))) fv (upL w t) (vAdd V t)).2)).1))]) rfl rfl rfl ?_
              exact z_aret C dX19_from_92 (Or.inl ⟨_, rfl⟩) (z_rfv _) (Nat.le_of_ble_eq_true rfl) (Nat.le_of_ble_eq_true rfl) ⟨congrArg some (by rw [(sF3 (n := fv) (o := (xfO w n y)) (ch := (xCh w y (!decide (y = 1)))) (t := t) (V := V) (by assumption) (by omega) (show (xCh w y (!decide (y = 1))) t = (upL w t) ++ (fcL w t (w 6 t).toNat) by unfold xCh chL; rw [if_neg (by omega)]; simp_all)).trans (if_neg (by omega))]), (congrArg (fun z9 => zP θ (zup M mt (metE θ z9)) N) (by rw [(sF3 (n := fv) (o := (xfO w n y)) (ch := (xCh w y (!decide (y = 1)))) (t := t) (V := V) (by assumption) (by omega) (show (xCh w y (!decide (y = 1))) t = (upL w t) ++ (fcL w t (w 6 t).toNat) by unfold xCh chL; rw [if_neg (by omega)]; simp_all)).trans (if_neg (by omega))]))⟩
            · skip
              have c8b : (((y) = 1)) := of_decide_eq_true c8
              refine z_aload_n C 80 0 dX19_from_79 rfl rfl ?_
              refine z_aload_n C 81 1 dX19_from_80 rfl rfl ?_
              refine z_callP (As := [.ref (σ 10 (t))]) (rest := []) C hκ hκl hT 84 (k19_inParent_22 hX hs hw hT sr mt y n fv t ((sL (xfO w n y) (xCh w y (!decide (y = 1))) fv (upL w t) (vAdd V t)).2) ht hfu r_y r_n hsr hne hmt hUq9 ih) dX19_from_81 q978 q980 q979 q943 rfl q113 q981 (zNd_of znX19_inParent) (by dsimp only; omega) (by dsimp only; omega) (Nat.le_of_ble_eq_true rfl) (Nat.le_of_ble_eq_true rfl) (zrec_P (show zup M mt _ sr = _ from (zup_n hne).trans hsr)) rfl rfl (Nat.le_of_ble_eq_true rfl) rfl (fun v9 Q9 h9 => ?_)
              obtain ⟨rfl, rfl⟩ := h9
              have hL10 := sL_r (o := (xfO w n y)) (ch := (xCh w y (!decide (y = 1)))) (N := w 11 0) hor (by omega) fv (upL w t) ((sL (xfO w n y) (xCh w y (!decide (y = 1))) fv (upL w t) (vAdd V t)).2)
              refine z_as (st' := [va_rf (xo σ 20 ((sL (xfO w n y) (xCh w y (!decide (y = 1))) fv (upL w t) ((sL (xfO w n y) (xCh w y (!decide (y = 1))) fv (upL w t) (vAdd V t)).2)).1))]) rfl rfl rfl ?_
              refine z_goto C 92 dX19_from_84 (by decide) ?_
              exact z_aret C dX19_from_92 (Or.inl ⟨_, rfl⟩) (z_rfv _) (Nat.le_of_ble_eq_true rfl) (Nat.le_of_ble_eq_true rfl) ⟨congrArg some ((by exfalso; simp_all)), (by exfalso; simp_all)⟩
          · skip
            rw [xo_y n7]
            refine z_as (st' := [.ref (σ 20 ((sL (xfO w n y) (xCh w y (!decide (y = 1))) fv (upL w t) (vAdd V t)).1))]) (lv' := [(0, .ref (sr)), (1, .ref (σ 10 (t))), (2, .ref (σ 20 ((sL (xfO w n y) (xCh w y (!decide (y = 1))) fv (upL w t) (vAdd V t)).1)))]) rfl rfl rfl ?_
            refine z_ifnull C 68 dX19_from_65 rfl ?_
            refine z_aload_n C 69 2 dX19_from_68 rfl rfl ?_
            refine z_goto C 92 dX19_from_69 (by decide) ?_
            exact z_aret C dX19_from_92 (Or.inl ⟨_, rfl⟩) (Or.inr ⟨_, rfl⟩) (Nat.le_of_ble_eq_true rfl) (Nat.le_of_ble_eq_true rfl) ⟨congrArg some (by rw [(sF3 (n := fv) (o := (xfO w n y)) (ch := (xCh w y (!decide (y = 1)))) (t := t) (V := V) (by assumption) (by omega) (show (xCh w y (!decide (y = 1))) t = (upL w t) ++ (fcL w t (w 6 t).toNat) by unfold xCh chL; rw [if_neg (by omega)]; simp_all)).trans (if_pos (by omega))]; exact congrArg va_rf (xo_y (by omega)).symm), (congrArg (fun z9 => zP θ (zup M mt (metE θ z9)) N) (by rw [(sF3 (n := fv) (o := (xfO w n y)) (ch := (xCh w y (!decide (y = 1)))) (t := t) (V := V) (by assumption) (by omega) (show (xCh w y (!decide (y = 1))) t = (upL w t) ++ (fcL w t (w 6 t).toNat) by unfold xCh chL; rw [if_neg (by omega)]; simp_all)).trans (if_pos (by omega))]))⟩
        · skip
          have c5b : (((y) = 1)) := of_decide_eq_true c5
          refine z_aload_n C 51 0 dX19_from_50 rfl rfl ?_
          refine z_aload_n C 52 1 dX19_from_51 rfl rfl ?_
          refine z_callP (As := [.ref (σ 10 (t))]) (rest := []) C hκ hκl hT 55 (k19_inFaces_22 hX hs hw hT sr mt y n fv t (vAdd V t) ht hfu r_y r_n hsr hne hmt hUq9 ih) dX19_from_52 q973 q975 q974 q943 rfl q113 q976 (zNd_of znX19_inFaces) (by dsimp only; omega) (by dsimp only; omega) (Nat.le_of_ble_eq_true rfl) (Nat.le_of_ble_eq_true rfl) (zrec_P (show zup M mt _ sr = _ from (zup_n hne).trans hsr)) rfl rfl (Nat.le_of_ble_eq_true rfl) rfl (fun v9 Q9 h9 => ?_)
          obtain ⟨rfl, rfl⟩ := h9
          have hL11 := sL_r (o := (xfO w n y)) (ch := (xCh w y (!decide (y = 1)))) (N := w 11 0) hor (by omega) fv (fcL w t (w 6 t).toNat) (vAdd V t)
          refine z_as (st' := [va_rf (xo σ 20 ((sL (xfO w n y) (xCh w y (!decide (y = 1))) fv (fcL w t (w 6 t).toNat) (vAdd V t)).1))]) rfl rfl rfl ?_
          refine z_goto C 63 dX19_from_55 (by decide) ?_
          refine z_astore_nq (lv' := [(0, .ref (sr)), (1, .ref (σ 10 (t))), (2, va_rf (xo σ 20 ((sL (xfO w n y) (xCh w y (!decide (y = 1))) fv (fcL w t (w 6 t).toNat) (vAdd V t)).1)))]) C 64 [1, 2, 0] dX19_from_63 (by decide) rfl rfl ?_
          refine z_aload_nq C 65 2 dX19_from_64 rfl rfl ?_
          rcases Int.lt_or_le ((sL (xfO w n y) (xCh w y (!decide (y = 1))) fv (fcL w t (w 6 t).toNat) (vAdd V t)).1) 0 with n12 | n12
          · skip
            rw [xo_n n12]
            refine z_as (st' := [.null]) (lv' := [(0, .ref (sr)), (1, .ref (σ 10 (t))), (2, .null)]) rfl rfl rfl ?_
            refine z_ifnullN C 72 dX19_from_65 (by decide) ?_
            refine z_aload_n C 73 0 dX19_from_72 rfl rfl ?_
            refine z_callO (owner := RX19) (As := []) (rest := []) C hκ hκl 76 (k22_isFaceFirst hX hs hw hT (sr) (mt) (y) (n) ((sL (xfO w n y) (xCh w y (!decide (y = 1))) fv (fcL w t (w 6 t).toNat) (vAdd V t)).2) r_y r_n hsr hne hmt hUq9) dX19_from_73 q965 q967 q966 q972 q968 q969 q117 q970 ⟨by decide, by decide, rfl⟩ (by dsimp only; omega) (by dsimp only; omega) (Nat.le_of_ble_eq_true rfl) (Nat.le_of_ble_eq_true rfl) (zrec_P (show zup M mt _ sr = _ from (zup_n hne).trans hsr)) rfl rfl (Nat.le_of_ble_eq_true rfl) rfl (fun v9 Q9 h9 => ?_)
            obtain ⟨rfl, rfl⟩ := h9
            refine z_as (st' := [.int (iI (bI (decide ((y) = 1))))]) rfl rfl rfl ?_
            refine z_ifB_eq C 87 79 dX19_from_76 (by decide) rfl (fun c13 => ?_) (fun c13 => ?_)
            · skip
              have c13b : ¬ (((y) = 1)) := of_decide_eq_false c13
              refine z_aload_n C 88 0 dX19_from_87 rfl rfl ?_
              refine z_aload_n C 89 1 dX19_from_88 rfl rfl ?_
              refine z_callP (As := [.ref (σ 10 (t))]) (rest := []) C hκ hκl hT 92 (k19_inFaces_22 hX hs hw hT sr mt y n fv t ((sL (xfO w n y) (xCh w y (!decide (y = 1))) fv (fcL w t (w 6 t).toNat) (vAdd V t)).2) ht hfu r_y r_n hsr hne hmt hUq9 ih) dX19_from_89 q973 q975 q974 q943 rfl q113 q976 (zNd_of znX19_inFaces) (by dsimp only; omega) (by dsimp only; omega) (Nat.le_of_ble_eq_true rfl) (Nat.le_of_ble_eq_true rfl) (zrec_P (show zup M mt _ sr = _ from (zup_n hne).trans hsr)) rfl rfl (Nat.le_of_ble_eq_true rfl) rfl (fun v9 Q9 h9 => ?_)
              obtain ⟨rfl, rfl⟩ := h9
              have hL14 := sL_r (o := (xfO w n y)) (ch := (xCh w y (!decide (y = 1)))) (N := w 11 0) hor (by omega) fv (fcL w t (w 6 t).toNat) ((sL (xfO w n y) (xCh w y (!decide (y = 1))) fv (fcL w t (w 6 t).toNat) (vAdd V t)).2)
              refine z_as (st' := [va_rf (xo σ 20 ((sL (xfO w n y) (xCh w y (!decide (y = 1))) fv (fcL w t (w 6 t).toNat) ((sL (xfO w n y) (xCh w y (!decide (y = 1))) fv (fcL w t (w 6 t).toNat) (vAdd V t)).2)).1))]) rfl rfl rfl ?_
              exact z_aret C dX19_from_92 (Or.inl ⟨_, rfl⟩) (z_rfv _) (Nat.le_of_ble_eq_true rfl) (Nat.le_of_ble_eq_true rfl) ⟨congrArg some ((by exfalso; simp_all)), (by exfalso; simp_all)⟩
            · skip
              have c13b : (((y) = 1)) := of_decide_eq_true c13
              refine z_aload_n C 80 0 dX19_from_79 rfl rfl ?_
              refine z_aload_n C 81 1 dX19_from_80 rfl rfl ?_
              refine z_callP (As := [.ref (σ 10 (t))]) (rest := []) C hκ hκl hT 84 (k19_inParent_22 hX hs hw hT sr mt y n fv t ((sL (xfO w n y) (xCh w y (!decide (y = 1))) fv (fcL w t (w 6 t).toNat) (vAdd V t)).2) ht hfu r_y r_n hsr hne hmt hUq9 ih) dX19_from_81 q978 q980 q979 q943 rfl q113 q981 (zNd_of znX19_inParent) (by dsimp only; omega) (by dsimp only; omega) (Nat.le_of_ble_eq_true rfl) (Nat.le_of_ble_eq_true rfl) (zrec_P (show zup M mt _ sr = _ from (zup_n hne).trans hsr)) rfl rfl (Nat.le_of_ble_eq_true rfl) rfl (fun v9 Q9 h9 => ?_)
              obtain ⟨rfl, rfl⟩ := h9
              have hL15 := sL_r (o := (xfO w n y)) (ch := (xCh w y (!decide (y = 1)))) (N := w 11 0) hor (by omega) fv (upL w t) ((sL (xfO w n y) (xCh w y (!decide (y = 1))) fv (fcL w t (w 6 t).toNat) (vAdd V t)).2)
              refine z_as (st' := [va_rf (xo σ 20 ((sL (xfO w n y) (xCh w y (!decide (y = 1))) fv (upL w t) ((sL (xfO w n y) (xCh w y (!decide (y = 1))) fv (fcL w t (w 6 t).toNat) (vAdd V t)).2)).1))]) rfl rfl rfl ?_
              refine z_goto C 92 dX19_from_84 (by decide) ?_
              exact z_aret C dX19_from_92 (Or.inl ⟨_, rfl⟩) (z_rfv _) (Nat.le_of_ble_eq_true rfl) (Nat.le_of_ble_eq_true rfl) ⟨congrArg some (by rw [(sF3 (n := fv) (o := (xfO w n y)) (ch := (xCh w y (!decide (y = 1)))) (t := t) (V := V) (by assumption) (by omega) (show (xCh w y (!decide (y = 1))) t = (fcL w t (w 6 t).toNat) ++ (upL w t) by unfold xCh chL; rw [if_neg (by omega)]; simp_all)).trans (if_neg (by omega))]), (congrArg (fun z9 => zP θ (zup M mt (metE θ z9)) N) (by rw [(sF3 (n := fv) (o := (xfO w n y)) (ch := (xCh w y (!decide (y = 1)))) (t := t) (V := V) (by assumption) (by omega) (show (xCh w y (!decide (y = 1))) t = (fcL w t (w 6 t).toNat) ++ (upL w t) by unfold xCh chL; rw [if_neg (by omega)]; simp_all)).trans (if_neg (by omega))]))⟩
          · skip
            rw [xo_y n12]
            refine z_as (st' := [.ref (σ 20 ((sL (xfO w n y) (xCh w y (!decide (y = 1))) fv (fcL w t (w 6 t).toNat) (vAdd V t)).1))]) (lv' := [(0, .ref (sr)), (1, .ref (σ 10 (t))), (2, .ref (σ 20 ((sL (xfO w n y) (xCh w y (!decide (y = 1))) fv (fcL w t (w 6 t).toNat) (vAdd V t)).1)))]) rfl rfl rfl ?_
            refine z_ifnull C 68 dX19_from_65 rfl ?_
            refine z_aload_n C 69 2 dX19_from_68 rfl rfl ?_
            refine z_goto C 92 dX19_from_69 (by decide) ?_
            exact z_aret C dX19_from_92 (Or.inl ⟨_, rfl⟩) (Or.inr ⟨_, rfl⟩) (Nat.le_of_ble_eq_true rfl) (Nat.le_of_ble_eq_true rfl) ⟨congrArg some (by rw [(sF3 (n := fv) (o := (xfO w n y)) (ch := (xCh w y (!decide (y = 1)))) (t := t) (V := V) (by assumption) (by omega) (show (xCh w y (!decide (y = 1))) t = (fcL w t (w 6 t).toNat) ++ (upL w t) by unfold xCh chL; rw [if_neg (by omega)]; simp_all)).trans (if_pos (by omega))]; exact congrArg va_rf (xo_y (by omega)).symm), (congrArg (fun z9 => zP θ (zup M mt (metE θ z9)) N) (by rw [(sF3 (n := fv) (o := (xfO w n y)) (ch := (xCh w y (!decide (y = 1)))) (t := t) (V := V) (by assumption) (by omega) (show (xCh w y (!decide (y = 1))) t = (fcL w t (w 6 t).toNat) ++ (upL w t) by unfold xCh chL; rw [if_neg (by omega)]; simp_all)).trans (if_pos (by omega))]))⟩
      · skip
        refine z_aload_nN C 42 2 dX19_from_41 rfl rfl ?_
        exact z_aret C dX19_from_42 (Or.inl ⟨_, rfl⟩) (Or.inl rfl) (Nat.le_of_ble_eq_true rfl) (Nat.le_of_ble_eq_true rfl) ⟨congrArg some (by rw [sF0 (n := fv) (o := (xfO w n y)) (ch := (xCh w y (!decide (y = 1)))) (t := t) (V := V) (by assumption) (by omega) (by unfold xCh; rw [if_pos (by omega)]), xo_n (show ((-1 : Int), vAdd V t).1 < 0 from (by decide : (-1 : Int) < 0))]; rfl), (congrArg (fun z9 => zP θ (zup M mt (metE θ z9)) N) (by rw [sF0 (n := fv) (o := (xfO w n y)) (ch := (xCh w y (!decide (y = 1)))) (t := t) (V := V) (by assumption) (by omega) (by unfold xCh; rw [if_pos (by omega)])]))⟩
    · skip
      rw [xo_y n3]
      refine z_as (st' := [.ref (σ 20 ((xfO w (n) (y)) (t)))]) (lv' := [(0, .ref (sr)), (1, .ref (σ 10 (t))), (2, .ref (σ 20 ((xfO w (n) (y)) (t))))]) rfl rfl rfl ?_
      refine z_ifnonnull C 41 dX19_from_31 (by decide) ?_
      refine z_aload_n C 42 2 dX19_from_41 rfl rfl ?_
      exact z_aret C dX19_from_42 (Or.inl ⟨_, rfl⟩) (Or.inr ⟨_, rfl⟩) (Nat.le_of_ble_eq_true rfl) (Nat.le_of_ble_eq_true rfl) ⟨congrArg some (by rw [sF2 (n := fv) (o := (xfO w n y)) (ch := (xCh w y (!decide (y = 1)))) (t := t) (V := V) (by assumption) (by omega)]; exact congrArg va_rf (xo_y (show 0 ≤ (xfO w n y) t by omega)).symm), (congrArg (fun z9 => zP θ (zup M mt (metE θ z9)) N) (by rw [sF2 (n := fv) (o := (xfO w n y)) (ch := (xCh w y (!decide (y = 1)))) (t := t) (V := V) (by assumption) (by omega)]))⟩
  · skip
    refine z_null C 13 dX19_from_12 rfl ?_
    exact z_aret C dX19_from_13 (Or.inl ⟨_, rfl⟩) (Or.inl rfl) (Nat.le_of_ble_eq_true rfl) (Nat.le_of_ble_eq_true rfl) ⟨congrArg some (by rw [sF1 (n := fv) (o := (xfO w n y)) (ch := (xCh w y (!decide (y = 1)))) (by assumption), xo_n (show ((-1 : Int), V).1 < 0 from (by decide : (-1 : Int) < 0))]; rfl), (congrArg (fun z9 => zP θ (zup M mt (metE θ z9)) N) (by rw [sF1 (n := fv) (o := (xfO w n y)) (ch := (xCh w y (!decide (y = 1)))) (by assumption)]))⟩
theorem xSr_all_22 {l : Launch} {θ : zTh} {σ : xA} {w : mW} {M N : zMap} (hX : xM θ σ w (xL w) M) (hs : xS w) (hw : mWF w) (hT : zTb θ) (sr : Nat) (mt : Nat) (y : Int) (n : Int) (r_y : inR y) (r_n : inR n) (hsr : M sr = some (.inr (22, [.ref mt, .int (iI y), .ref (σ 0 (0)), .int (iI n), .ref (σ 0 (0))]))) (hne : sr ≠ mt) (hmt : xFr σ w (xL w) mt) (hUq : xUq w) : ∀ fv : Nat, xSr l θ σ w M N sr mt (xfO w n y) (xCh w y (!decide (y = 1))) fv
  | 0 => fun t V ht h => by omega
  | fv + 1 => fun t V ht h => k19_from_22 hX hs hw hT sr mt y n fv t V ht (by omega) r_y r_n hsr hne hmt hUq (xSr_all_22 hX hs hw hT sr mt y n r_y r_n hsr hne hmt hUq fv)
set_option maxRecDepth 100000 in
theorem k20_own {l : Launch} {θ : zTh} {σ : xA} {w : mW} {M N : zMap} (hX : xM θ σ w (xL w) M) (hs : xS w) (hw : mWF w) (hT : zTb θ) (sr : Nat) (mt : Nat) (y : Int) (m : Int) (t0 : Int) (t : Int) (V : Int → Bool)  (ht : 0 ≤ t ∧ t < w 0 0) (r_y : inR y) (hsr : M sr = some (.inr (20, [.ref mt, .int (iI y), .ref (σ 0 (0)), .ref (σ 20 (m)), .ref (σ 10 (t0)), .ref (σ 0 (0))]))) (hm : 0 ≤ m ∧ m < w 11 0) (h0 : 0 ≤ t0 ∧ t0 < w 0 0) (hne : sr ≠ mt) (hmt : xFr σ w (xL w) mt) (hUq : xUq w) : ZM θ l yX20_own cX20_own 4 (some (.object "ReflectMirror$Member")) ⟨2, 0, 0, 46⟩ [.ref (sr), .ref (σ 10 (t))] (zP θ (zup M mt (metE θ V)) N) (zFn (some (va_rf (xo σ 20 ((xmO w t0 m y) t)))) (zP θ (zup M mt (metE θ V)) N)) := by
  refine z_start (own := RX20) (nm := "own") pnX20 rfl rfl (Nat.le_of_ble_eq_true rfl) ?_
  intro κ hκ hκl C
  change Z κ (zP θ (zup M mt (metE θ V)) N) 0 0 0 [(0, .ref (sr)), (1, .ref (σ 10 (t)))] []
  have hS := hs.S
  have hB := hS.B
  obtain ⟨hB1, hB2, hB3, hB4, hB5, hB6⟩ := hS.B
  have hC := hS.C
  obtain ⟨h81, h82⟩ := hs.r8
  have hUq9 := hUq
  refine z_aload_n C 1 0 dX20_own_0 rfl rfl ?_
  refine z_getf C hκ (v := .ref (σ 0 (0))) 4 5 zk_X20 (show zup M mt _ sr = _ from (zup_n hne).trans hsr) (by decide) q919 (Or.inl rfl) rfl dX20_own_1 rfl ?_
  refine z_aload_n C 5 1 dX20_own_4 rfl rfl ?_
  refine z_aload_n C 6 0 dX20_own_5 rfl rfl ?_
  refine z_getf C hκ (v := .ref (σ 20 (m))) 9 3 zk_X20 (show zup M mt _ sr = _ from (zup_n hne).trans hsr) (by decide) q917 (Or.inl rfl) rfl dX20_own_6 rfl ?_
  refine z_callVN (As := [.ref (σ 10 (t)), .ref (σ 20 (m))]) (rest := []) C hκ hκl hT 12 (k0_ownMethod (hX.up hmt) hs hw hT (t) (m) ⟨by omega, by omega⟩ ((hX.up hmt).ma hs hm.1 hm.2) hUq9) dX20_own_9 q961 q756 qs5 q90 q757 (zNd_of znX0_ownMethod) (Nat.le_of_ble_eq_true rfl) (Nat.le_of_ble_eq_true rfl) (Nat.le_of_ble_eq_true rfl) (Nat.le_of_ble_eq_true rfl) (zrec_P (hX.up hmt).o) rfl rfl (Nat.le_of_ble_eq_true rfl) rfl (fun v9 Q9 h9 => ?_)
  obtain ⟨rfl, rfl⟩ := h9
  refine z_as (st' := [va_rf (xo σ 20 (olI w (t) (m)))]) rfl rfl rfl ?_
  refine z_astore_nq (lv' := [(0, .ref (sr)), (1, .ref (σ 10 (t))), (2, va_rf (xo σ 20 (olI w (t) (m))))]) C 13 [1, 2, 0] dX20_own_12 (by decide) rfl rfl ?_
  have hr9 := olI_r (w := w) (t := t) (m := m) (by omega)
  refine z_aload_nq C 14 2 dX20_own_13 rfl rfl ?_
  rcases Int.lt_or_le (olI w (t) (m)) 0 with n1 | n1
  · skip
    rw [xo_n n1]
    refine z_as (st' := [.null]) (lv' := [(0, .ref (sr)), (1, .ref (σ 10 (t))), (2, .null)]) rfl rfl rfl ?_
    refine z_ifnullN C 24 dX20_own_14 (by decide) ?_
    refine z_aload_nN C 25 2 dX20_own_24 rfl rfl ?_
    exact z_aret C dX20_own_25 (Or.inl ⟨_, rfl⟩) (Or.inl rfl) (Nat.le_of_ble_eq_true rfl) (Nat.le_of_ble_eq_true rfl) ⟨congrArg some (by clear C hκ hκl hS hB hB1 hB2 hB3 hB4 hB5 hB6 hC hw hX hs hT h81 h82; have e9 : xmO w t0 m y t = -1 := (by unfold xmO; first | (rw [if_pos (by omega)]) | (rw [if_neg (by omega), if_neg (by omega), if_pos (by first | (simp_all; done) | grind)])); rw [e9, xo_n (by decide)]; rfl), rfl⟩
  · skip
    rw [xo_y n1]
    refine z_as (st' := [.ref (σ 20 (olI w (t) (m)))]) (lv' := [(0, .ref (sr)), (1, .ref (σ 10 (t))), (2, .ref (σ 20 (olI w (t) (m))))]) rfl rfl rfl ?_
    refine z_ifnull C 17 dX20_own_14 rfl ?_
    refine z_aload_n C 18 0 dX20_own_17 rfl rfl ?_
    refine z_getf C hκ (v := .int (iI (y))) 21 1 zk_X20 (show zup M mt _ sr = _ from (zup_n hne).trans hsr) (by decide) q924 (Or.inr q925) rfl dX20_own_18 rfl ?_
    refine z_if_ne C 26 24 dX20_own_21 (by decide) r_y rfl (fun c2 => ?_) (fun c2 => ?_)
    · skip
      refine z_aload_n C 27 0 dX20_own_26 rfl rfl ?_
      refine z_getf C hκ (v := .int (iI (y))) 30 1 zk_X20 (show zup M mt _ sr = _ from (zup_n hne).trans hsr) (by decide) q924 (Or.inr q925) rfl dX20_own_27 rfl ?_
      refine z_iconst C 31 dX20_own_30 rfl ?_
      refine z_icmp_ne C 42 34 dX20_own_31 (by decide) r_y ⟨by decide, by decide⟩ rfl (fun c3 => ?_) (fun c3 => ?_)
      · skip
        refine z_aload_n C 43 2 dX20_own_42 rfl rfl ?_
        refine z_iconst C 44 dX20_own_43 rfl ?_
        refine z_callV (As := [.int (iI (4))]) (rest := []) C hκ hκl 47 (k9_has (hX.up hmt) hs hw hT (olI w (t) (m)) (4) ⟨by decide, by decide⟩ ⟨by omega, by omega⟩) dX20_own_44 q963 q712 q713 q103 q714 znX9_has (Nat.le_of_ble_eq_true rfl) (Nat.le_of_ble_eq_true rfl) (Nat.le_of_ble_eq_true rfl) (Nat.le_of_ble_eq_true rfl) (zrec_P ((hX.up hmt).mem (by omega) (by omega))) rfl rfl (Nat.le_of_ble_eq_true rfl) rfl (fun v9 Q9 h9 => ?_)
        obtain ⟨rfl, rfl⟩ := h9
        refine z_as (st' := [.int (iI (bI (hasB w (olI w (t) (m)) (4))))]) rfl rfl rfl ?_
        refine z_ifB_eq C 70 50 dX20_own_47 (by decide) rfl (fun c4 => ?_) (fun c4 => ?_)
        · skip
          refine z_iconst C 71 dX20_own_70 rfl ?_
          refine z_istore_n (lv' := [(0, .ref (sr)), (1, .ref (σ 10 (t))), (2, .ref (σ 20 (olI w (t) (m)))), (3, .int (iI (0)))]) C 72 [1, 2, 3, 0] dX20_own_71 (by decide) rfl rfl ?_
          refine z_iload_n C 73 3 dX20_own_72 rfl rfl ?_
          refine z_if_eq C 80 76 dX20_own_73 (by decide) ⟨by decide, by decide⟩ rfl (fun c5 => ?_) (fun c5 => absurd c5 (by decide))
          refine z_aload_n C 81 2 dX20_own_80 rfl rfl ?_
          exact z_aret C dX20_own_81 (Or.inl ⟨_, rfl⟩) (Or.inr ⟨_, rfl⟩) (Nat.le_of_ble_eq_true rfl) (Nat.le_of_ble_eq_true rfl) ⟨congrArg some (by clear C hκ hκl hS hB hB1 hB2 hB3 hB4 hB5 hB6 hC hw hX hs hT h81 h82; have e9 : xmO w t0 m y t = olI w t m := (by unfold xmO; first | (rw [if_neg (by omega), if_pos (by omega)]) | (rw [if_neg (by omega), if_neg (by omega), if_neg (by first | (simp_all; done) | grind)])); rw [e9, xo_y (by omega)]; rfl), rfl⟩
        · skip
          refine z_aload_n C 51 1 dX20_own_50 rfl rfl ?_
          obtain ⟨f6a, f6b, f6c, f6d, f6e, f6f, f6g, f6h⟩ := hS.T (show 0 ≤ t by omega) (by omega)
          obtain ⟨f6i, f6j, f6k, f6l⟩ := hs.ty (show 0 ≤ t by omega) (by omega)
          refine xv_what (rest := []) C hκ hκl (hX.up hmt) hs hw hT (t)   ⟨(by omega), (by omega)⟩  54 dX20_own_51 q964 (Nat.le_of_ble_eq_true rfl) (Nat.le_of_ble_eq_true rfl) (Nat.le_of_ble_eq_true rfl) (Nat.le_of_ble_eq_true rfl) (Nat.le_of_ble_eq_true rfl) rfl ?_
          refine z_as (st' := [.int (iI (w 1 (t)))]) rfl rfl rfl ?_
          refine z_iconst C 55 dX20_own_54 rfl ?_
          refine z_icmp_ne C 70 58 dX20_own_55 (by decide) (hw.r _ _ rfl) ⟨by decide, by decide⟩ rfl (fun c7 => ?_) (fun c7 => ?_)
          · skip
            refine z_iconst C 71 dX20_own_70 rfl ?_
            refine z_istore_n (lv' := [(0, .ref (sr)), (1, .ref (σ 10 (t))), (2, .ref (σ 20 (olI w (t) (m)))), (3, .int (iI (0)))]) C 72 [1, 2, 3, 0] dX20_own_71 (by decide) rfl rfl ?_
            refine z_iload_n C 73 3 dX20_own_72 rfl rfl ?_
            refine z_if_eq C 80 76 dX20_own_73 (by decide) ⟨by decide, by decide⟩ rfl (fun c8 => ?_) (fun c8 => absurd c8 (by decide))
            refine z_aload_n C 81 2 dX20_own_80 rfl rfl ?_
            exact z_aret C dX20_own_81 (Or.inl ⟨_, rfl⟩) (Or.inr ⟨_, rfl⟩) (Nat.le_of_ble_eq_true rfl) (Nat.le_of_ble_eq_true rfl) ⟨congrArg some (by clear C hκ hκl hS hB hB1 hB2 hB3 hB4 hB5 hB6 hC hw hX hs hT h81 h82 f6a f6b f6c f6d f6e f6f f6g f6h f6i f6j f6k f6l; have e9 : xmO w t0 m y t = olI w t m := (by unfold xmO; first | (rw [if_neg (by omega), if_pos (by omega)]) | (rw [if_neg (by omega), if_neg (by omega), if_neg (by first | (simp_all; done) | grind)])); rw [e9, xo_y (by omega)]; rfl), rfl⟩
          · skip
            refine z_aload_n C 59 1 dX20_own_58 rfl rfl ?_
            refine z_aload_n C 60 0 dX20_own_59 rfl rfl ?_
            refine z_getf C hκ (v := .ref (σ 10 (t0))) 63 4 zk_X20 (show zup M mt _ sr = _ from (zup_n hne).trans hsr) (by decide) q918 (Or.inl rfl) rfl dX20_own_60 rfl ?_
            have c9i := xo_T hX (a := t) (b := t0) (by omega) (by omega) (by omega) (by omega)
            refine z_acmp_eq C (xo σ 10 (t)) (xo σ 10 (t0)) 70 66 dX20_own_63 (by decide) rfl (by rw [xo_y (by omega)]; rfl) (by rw [xo_y (by omega)]; rfl) (fun c9 => ?_) (fun c9 => ?_)
            · skip
              have c9b : t = t0 := c9i.mp c9; clear c9i
              refine z_iconst C 71 dX20_own_70 rfl ?_
              refine z_istore_n (lv' := [(0, .ref (sr)), (1, .ref (σ 10 (t))), (2, .ref (σ 20 (olI w (t) (m)))), (3, .int (iI (0)))]) C 72 [1, 2, 3, 0] dX20_own_71 (by decide) rfl rfl ?_
              refine z_iload_n C 73 3 dX20_own_72 rfl rfl ?_
              refine z_if_eq C 80 76 dX20_own_73 (by decide) ⟨by decide, by decide⟩ rfl (fun c10 => ?_) (fun c10 => absurd c10 (by decide))
              refine z_aload_n C 81 2 dX20_own_80 rfl rfl ?_
              exact z_aret C dX20_own_81 (Or.inl ⟨_, rfl⟩) (Or.inr ⟨_, rfl⟩) (Nat.le_of_ble_eq_true rfl) (Nat.le_of_ble_eq_true rfl) ⟨congrArg some (by clear C hκ hκl hS hB hB1 hB2 hB3 hB4 hB5 hB6 hC hw hX hs hT h81 h82 f6a f6b f6c f6d f6e f6f f6g f6h f6i f6j f6k f6l; have e9 : xmO w t0 m y t = olI w t m := (by unfold xmO; first | (rw [if_neg (by omega), if_pos (by omega)]) | (rw [if_neg (by omega), if_neg (by omega), if_neg (by first | (simp_all; done) | grind)])); rw [e9, xo_y (by omega)]; rfl), rfl⟩
            · skip
              have c9b : ¬ (t = t0) := fun h9 => c9 (c9i.mpr h9); clear c9i
              refine z_iconst C 67 dX20_own_66 rfl ?_
              refine z_goto C 71 dX20_own_67 (by decide) ?_
              refine z_istore_n (lv' := [(0, .ref (sr)), (1, .ref (σ 10 (t))), (2, .ref (σ 20 (olI w (t) (m)))), (3, .int (iI (1)))]) C 72 [1, 2, 3, 0] dX20_own_71 (by decide) rfl rfl ?_
              refine z_iload_n C 73 3 dX20_own_72 rfl rfl ?_
              refine z_if_eq C 80 76 dX20_own_73 (by decide) ⟨by decide, by decide⟩ rfl (fun c11 => absurd c11 (by decide)) (fun c11 => ?_)
              refine z_null C 77 dX20_own_76 rfl ?_
              refine z_goto C 81 dX20_own_77 (by decide) ?_
              exact z_aret C dX20_own_81 (Or.inl ⟨_, rfl⟩) (Or.inl rfl) (Nat.le_of_ble_eq_true rfl) (Nat.le_of_ble_eq_true rfl) ⟨congrArg some (by clear C hκ hκl hS hB hB1 hB2 hB3 hB4 hB5 hB6 hC hw hX hs hT h81 h82 f6a f6b f6c f6d f6e f6f f6g f6h f6i f6j f6k f6l; have e9 : xmO w t0 m y t = -1 := (by unfold xmO; first | (rw [if_pos (by omega)]) | (rw [if_neg (by omega), if_neg (by omega), if_pos (by first | (simp_all; done) | grind)])); rw [e9, xo_n (by decide)]; rfl), rfl⟩
      · skip
        refine z_aload_n C 35 2 dX20_own_34 rfl rfl ?_
        refine z_callV (As := []) (rest := []) C hκ hκl 38 (k9_who (hX.up hmt) hs hw hT (olI w (t) (m)) ⟨by omega, by omega⟩) dX20_own_35 q962 q955 q956 q103 q957 znX9_who (Nat.le_of_ble_eq_true rfl) (Nat.le_of_ble_eq_true rfl) (Nat.le_of_ble_eq_true rfl) (Nat.le_of_ble_eq_true rfl) (zrec_P ((hX.up hmt).mem (by omega) (by omega))) rfl rfl (Nat.le_of_ble_eq_true rfl) rfl (fun v9 Q9 h9 => ?_)
        obtain ⟨rfl, rfl⟩ := h9
        refine z_as (st' := [.int (iI (whoI w (olI w (t) (m))))]) rfl rfl rfl ?_
        refine z_iconst C 39 dX20_own_38 rfl ?_
        refine z_icmp_ne C 66 42 dX20_own_39 (by decide) (inR_zand _ _) ⟨by decide, by decide⟩ rfl (fun c12 => ?_) (fun c12 => ?_)
        · skip
          refine z_iconst C 67 dX20_own_66 rfl ?_
          refine z_goto C 71 dX20_own_67 (by decide) ?_
          refine z_istore_n (lv' := [(0, .ref (sr)), (1, .ref (σ 10 (t))), (2, .ref (σ 20 (olI w (t) (m)))), (3, .int (iI (1)))]) C 72 [1, 2, 3, 0] dX20_own_71 (by decide) rfl rfl ?_
          refine z_iload_n C 73 3 dX20_own_72 rfl rfl ?_
          refine z_if_eq C 80 76 dX20_own_73 (by decide) ⟨by decide, by decide⟩ rfl (fun c13 => absurd c13 (by decide)) (fun c13 => ?_)
          refine z_null C 77 dX20_own_76 rfl ?_
          refine z_goto C 81 dX20_own_77 (by decide) ?_
          exact z_aret C dX20_own_81 (Or.inl ⟨_, rfl⟩) (Or.inl rfl) (Nat.le_of_ble_eq_true rfl) (Nat.le_of_ble_eq_true rfl) ⟨congrArg some (by clear C hκ hκl hS hB hB1 hB2 hB3 hB4 hB5 hB6 hC hw hX hs hT h81 h82; have e9 : xmO w t0 m y t = -1 := (by unfold xmO; first | (rw [if_pos (by omega)]) | (rw [if_neg (by omega), if_neg (by omega), if_pos (by first | (simp_all; done) | grind)])); rw [e9, xo_n (by decide)]; rfl), rfl⟩
        · skip
          refine z_aload_n C 43 2 dX20_own_42 rfl rfl ?_
          refine z_iconst C 44 dX20_own_43 rfl ?_
          refine z_callV (As := [.int (iI (4))]) (rest := []) C hκ hκl 47 (k9_has (hX.up hmt) hs hw hT (olI w (t) (m)) (4) ⟨by decide, by decide⟩ ⟨by omega, by omega⟩) dX20_own_44 q963 q712 q713 q103 q714 znX9_has (Nat.le_of_ble_eq_true rfl) (Nat.le_of_ble_eq_true rfl) (Nat.le_of_ble_eq_true rfl) (Nat.le_of_ble_eq_true rfl) (zrec_P ((hX.up hmt).mem (by omega) (by omega))) rfl rfl (Nat.le_of_ble_eq_true rfl) rfl (fun v9 Q9 h9 => ?_)
          obtain ⟨rfl, rfl⟩ := h9
          refine z_as (st' := [.int (iI (bI (hasB w (olI w (t) (m)) (4))))]) rfl rfl rfl ?_
          refine z_ifB_eq C 70 50 dX20_own_47 (by decide) rfl (fun c14 => ?_) (fun c14 => ?_)
          · skip
            refine z_iconst C 71 dX20_own_70 rfl ?_
            refine z_istore_n (lv' := [(0, .ref (sr)), (1, .ref (σ 10 (t))), (2, .ref (σ 20 (olI w (t) (m)))), (3, .int (iI (0)))]) C 72 [1, 2, 3, 0] dX20_own_71 (by decide) rfl rfl ?_
            refine z_iload_n C 73 3 dX20_own_72 rfl rfl ?_
            refine z_if_eq C 80 76 dX20_own_73 (by decide) ⟨by decide, by decide⟩ rfl (fun c15 => ?_) (fun c15 => absurd c15 (by decide))
            refine z_aload_n C 81 2 dX20_own_80 rfl rfl ?_
            exact z_aret C dX20_own_81 (Or.inl ⟨_, rfl⟩) (Or.inr ⟨_, rfl⟩) (Nat.le_of_ble_eq_true rfl) (Nat.le_of_ble_eq_true rfl) ⟨congrArg some (by clear C hκ hκl hS hB hB1 hB2 hB3 hB4 hB5 hB6 hC hw hX hs hT h81 h82; have e9 : xmO w t0 m y t = olI w t m := (by unfold xmO; first | (rw [if_neg (by omega), if_pos (by omega)]) | (rw [if_neg (by omega), if_neg (by omega), if_neg (by first | (simp_all; done) | grind)])); rw [e9, xo_y (by omega)]; rfl), rfl⟩
          · skip
            refine z_aload_n C 51 1 dX20_own_50 rfl rfl ?_
            obtain ⟨f16a, f16b, f16c, f16d, f16e, f16f, f16g, f16h⟩ := hS.T (show 0 ≤ t by omega) (by omega)
            obtain ⟨f16i, f16j, f16k, f16l⟩ := hs.ty (show 0 ≤ t by omega) (by omega)
            refine xv_what (rest := []) C hκ hκl (hX.up hmt) hs hw hT (t)   ⟨(by omega), (by omega)⟩  54 dX20_own_51 q964 (Nat.le_of_ble_eq_true rfl) (Nat.le_of_ble_eq_true rfl) (Nat.le_of_ble_eq_true rfl) (Nat.le_of_ble_eq_true rfl) (Nat.le_of_ble_eq_true rfl) rfl ?_
            refine z_as (st' := [.int (iI (w 1 (t)))]) rfl rfl rfl ?_
            refine z_iconst C 55 dX20_own_54 rfl ?_
            refine z_icmp_ne C 70 58 dX20_own_55 (by decide) (hw.r _ _ rfl) ⟨by decide, by decide⟩ rfl (fun c17 => ?_) (fun c17 => ?_)
            · skip
              refine z_iconst C 71 dX20_own_70 rfl ?_
              refine z_istore_n (lv' := [(0, .ref (sr)), (1, .ref (σ 10 (t))), (2, .ref (σ 20 (olI w (t) (m)))), (3, .int (iI (0)))]) C 72 [1, 2, 3, 0] dX20_own_71 (by decide) rfl rfl ?_
              refine z_iload_n C 73 3 dX20_own_72 rfl rfl ?_
              refine z_if_eq C 80 76 dX20_own_73 (by decide) ⟨by decide, by decide⟩ rfl (fun c18 => ?_) (fun c18 => absurd c18 (by decide))
              refine z_aload_n C 81 2 dX20_own_80 rfl rfl ?_
              exact z_aret C dX20_own_81 (Or.inl ⟨_, rfl⟩) (Or.inr ⟨_, rfl⟩) (Nat.le_of_ble_eq_true rfl) (Nat.le_of_ble_eq_true rfl) ⟨congrArg some (by clear C hκ hκl hS hB hB1 hB2 hB3 hB4 hB5 hB6 hC hw hX hs hT h81 h82 f16a f16b f16c f16d f16e f16f f16g f16h f16i f16j f16k f16l; have e9 : xmO w t0 m y t = olI w t m := (by unfold xmO; first | (rw [if_neg (by omega), if_pos (by omega)]) | (rw [if_neg (by omega), if_neg (by omega), if_neg (by first | (simp_all; done) | grind)])); rw [e9, xo_y (by omega)]; rfl), rfl⟩
            · skip
              refine z_aload_n C 59 1 dX20_own_58 rfl rfl ?_
              refine z_aload_n C 60 0 dX20_own_59 rfl rfl ?_
              refine z_getf C hκ (v := .ref (σ 10 (t0))) 63 4 zk_X20 (show zup M mt _ sr = _ from (zup_n hne).trans hsr) (by decide) q918 (Or.inl rfl) rfl dX20_own_60 rfl ?_
              have c19i := xo_T hX (a := t) (b := t0) (by omega) (by omega) (by omega) (by omega)
              refine z_acmp_eq C (xo σ 10 (t)) (xo σ 10 (t0)) 70 66 dX20_own_63 (by decide) rfl (by rw [xo_y (by omega)]; rfl) (by rw [xo_y (by omega)]; rfl) (fun c19 => ?_) (fun c19 => ?_)
              · skip
                have c19b : t = t0 := c19i.mp c19; clear c19i
                refine z_iconst C 71 dX20_own_70 rfl ?_
                refine z_istore_n (lv' := [(0, .ref (sr)), (1, .ref (σ 10 (t))), (2, .ref (σ 20 (olI w (t) (m)))), (3, .int (iI (0)))]) C 72 [1, 2, 3, 0] dX20_own_71 (by decide) rfl rfl ?_
                refine z_iload_n C 73 3 dX20_own_72 rfl rfl ?_
                refine z_if_eq C 80 76 dX20_own_73 (by decide) ⟨by decide, by decide⟩ rfl (fun c20 => ?_) (fun c20 => absurd c20 (by decide))
                refine z_aload_n C 81 2 dX20_own_80 rfl rfl ?_
                exact z_aret C dX20_own_81 (Or.inl ⟨_, rfl⟩) (Or.inr ⟨_, rfl⟩) (Nat.le_of_ble_eq_true rfl) (Nat.le_of_ble_eq_true rfl) ⟨congrArg some (by clear C hκ hκl hS hB hB1 hB2 hB3 hB4 hB5 hB6 hC hw hX hs hT h81 h82 f16a f16b f16c f16d f16e f16f f16g f16h f16i f16j f16k f16l; have e9 : xmO w t0 m y t = olI w t m := (by unfold xmO; first | (rw [if_neg (by omega), if_pos (by omega)]) | (rw [if_neg (by omega), if_neg (by omega), if_neg (by first | (simp_all; done) | grind)])); rw [e9, xo_y (by omega)]; rfl), rfl⟩
              · skip
                have c19b : ¬ (t = t0) := fun h9 => c19 (c19i.mpr h9); clear c19i
                refine z_iconst C 67 dX20_own_66 rfl ?_
                refine z_goto C 71 dX20_own_67 (by decide) ?_
                refine z_istore_n (lv' := [(0, .ref (sr)), (1, .ref (σ 10 (t))), (2, .ref (σ 20 (olI w (t) (m)))), (3, .int (iI (1)))]) C 72 [1, 2, 3, 0] dX20_own_71 (by decide) rfl rfl ?_
                refine z_iload_n C 73 3 dX20_own_72 rfl rfl ?_
                refine z_if_eq C 80 76 dX20_own_73 (by decide) ⟨by decide, by decide⟩ rfl (fun c21 => absurd c21 (by decide)) (fun c21 => ?_)
                refine z_null C 77 dX20_own_76 rfl ?_
                refine z_goto C 81 dX20_own_77 (by decide) ?_
                exact z_aret C dX20_own_81 (Or.inl ⟨_, rfl⟩) (Or.inl rfl) (Nat.le_of_ble_eq_true rfl) (Nat.le_of_ble_eq_true rfl) ⟨congrArg some (by clear C hκ hκl hS hB hB1 hB2 hB3 hB4 hB5 hB6 hC hw hX hs hT h81 h82 f16a f16b f16c f16d f16e f16f f16g f16h f16i f16j f16k f16l; have e9 : xmO w t0 m y t = -1 := (by unfold xmO; first | (rw [if_pos (by omega)]) | (rw [if_neg (by omega), if_neg (by omega), if_pos (by first | (simp_all; done) | grind)])); rw [e9, xo_n (by decide)]; rfl), rfl⟩
    · skip
      refine z_aload_n C 25 2 dX20_own_24 rfl rfl ?_
      exact z_aret C dX20_own_25 (Or.inl ⟨_, rfl⟩) (Or.inr ⟨_, rfl⟩) (Nat.le_of_ble_eq_true rfl) (Nat.le_of_ble_eq_true rfl) ⟨congrArg some (by clear C hκ hκl hS hB hB1 hB2 hB3 hB4 hB5 hB6 hC hw hX hs hT h81 h82; have e9 : xmO w t0 m y t = olI w t m := (by unfold xmO; first | (rw [if_neg (by omega), if_pos (by omega)]) | (rw [if_neg (by omega), if_neg (by omega), if_neg (by first | (simp_all; done) | grind)])); rw [e9, xo_y (by omega)]; rfl), rfl⟩
set_option maxRecDepth 100000 in
theorem k20_isFaceFirst {l : Launch} {θ : zTh} {σ : xA} {w : mW} {M N : zMap} (hX : xM θ σ w (xL w) M) (hs : xS w) (hw : mWF w) (hT : zTb θ) (sr : Nat) (mt : Nat) (y : Int) (m : Int) (t0 : Int) (V : Int → Bool)  (r_y : inR y) (hsr : M sr = some (.inr (20, [.ref mt, .int (iI y), .ref (σ 0 (0)), .ref (σ 20 (m)), .ref (σ 10 (t0)), .ref (σ 0 (0))]))) (hm : 0 ≤ m ∧ m < w 11 0) (h0 : 0 ≤ t0 ∧ t0 < w 0 0) (hne : sr ≠ mt) (hmt : xFr σ w (xL w) mt) (hUq : xUq w) : ZM θ l yX19_isFaceFirst cX19_isFaceFirst 1 (some .boolean) ⟨0, 0, 0, 0⟩ [.ref (sr)] (zP θ (zup M mt (metE θ V)) N) (zFn (some (.int (iI (bI (false))))) (zP θ (zup M mt (metE θ V)) N)) := by
  refine z_start (own := RX19) (nm := "isFaceFirst") pnX19 rfl rfl (Nat.le_of_ble_eq_true rfl) ?_
  intro κ hκ hκl C
  change Z κ (zP θ (zup M mt (metE θ V)) N) 0 0 0 [(0, .ref (sr))] []
  have hS := hs.S
  have hB := hS.B
  obtain ⟨hB1, hB2, hB3, hB4, hB5, hB6⟩ := hS.B
  have hC := hS.C
  obtain ⟨h81, h82⟩ := hs.r8
  have hUq9 := hUq
  refine z_iconst C 1 dX19_isFaceFirst_0 rfl ?_
  refine z_as (st' := [.int (iI (bI (false)))]) rfl rfl rfl ?_
  exact z_iret C dX19_isFaceFirst_1 (bI_nar _) (Nat.le_of_ble_eq_true rfl) (Nat.le_of_ble_eq_true rfl) ⟨congrArg (fun b => some (Value.int (iI (bI b)))) (rfl), rfl⟩
set_option maxRecDepth 100000 in
theorem k19_inParent_20 {l : Launch} {θ : zTh} {σ : xA} {w : mW} {M N : zMap} (hX : xM θ σ w (xL w) M) (hs : xS w) (hw : mWF w) (hT : zTb θ) (sr : Nat) (mt : Nat) (y : Int) (m : Int) (t0 : Int) (fv : Nat) (t : Int) (V : Int → Bool)  (ht : 0 ≤ t ∧ t < w 0 0) (hfu : t < fv + 1) (r_y : inR y) (hsr : M sr = some (.inr (20, [.ref mt, .int (iI y), .ref (σ 0 (0)), .ref (σ 20 (m)), .ref (σ 10 (t0)), .ref (σ 0 (0))]))) (hm : 0 ≤ m ∧ m < w 11 0) (h0 : 0 ≤ t0 ∧ t0 < w 0 0) (hne : sr ≠ mt) (hmt : xFr σ w (xL w) mt) (hUq : xUq w) (ih : xSr l θ σ w M N sr mt (xmO w t0 m y) (xCh w y true) fv) : ZM θ l yX19_inParent cX19_inParent 2 (some (.object "ReflectMirror$Member")) ⟨2 * fv + 13, 0, 0, 60 * fv + 430⟩ [.ref (sr), .ref (σ 10 (t))] (zP θ (zup M mt (metE θ V)) N) (zFn (some (va_rf (xo σ 20 ((sL (xmO w t0 m y) (xCh w y true) fv (upL w t) V).1)))) (zP θ (zup M mt (metE θ ((sL (xmO w t0 m y) (xCh w y true) fv (upL w t) V).2))) N)) := by
  refine z_start (own := RX19) (nm := "inParent") pnX19 rfl rfl (Nat.le_of_ble_eq_true rfl) ?_
  intro κ hκ hκl C
  change Z κ (zP θ (zup M mt (metE θ V)) N) 0 0 0 [(0, .ref (sr)), (1, .ref (σ 10 (t)))] []
  have hS := hs.S
  have hB := hS.B
  obtain ⟨hB1, hB2, hB3, hB4, hB5, hB6⟩ := hS.B
  have hC := hS.C
  obtain ⟨h81, h82⟩ := hs.r8
  have hUq9 := hUq
  obtain ⟨f1a, f1b, f1c, f1d, f1e, f1f, f1g, f1h⟩ := hS.T (show 0 ≤ t by omega) (by omega)
  obtain ⟨f1i, f1j, f1k, f1l⟩ := hs.ty (show 0 ≤ t by omega) (by omega)
  have hor : ∀ u, -1 ≤ (xmO w t0 m y) u ∧ (xmO w t0 m y) u < w 11 0 := fun u => xmO_r (by omega)
  refine z_aload_n C 1 1 dX19_inParent_0 rfl rfl ?_
  refine xv_parent (rest := []) C hκ hκl (hX.up hmt) hs hw hT (t)   ⟨(by omega), (by omega)⟩  4 dX19_inParent_1 q982 (Nat.le_of_ble_eq_true rfl) (Nat.le_of_ble_eq_true rfl) (Nat.le_of_ble_eq_true rfl) (Nat.le_of_ble_eq_true rfl) (Nat.le_of_ble_eq_true rfl) rfl ?_
  refine z_as (st' := [va_rf (xo σ 10 (w 2 (t)))]) rfl rfl rfl ?_
  rcases Int.lt_or_le (w 2 (t)) 0 with n2 | n2
  · skip
    rw [xo_n n2]
    refine z_as (st' := [.null]) (lv' := [(0, .ref (sr)), (1, .ref (σ 10 (t)))]) rfl rfl rfl ?_
    refine z_ifnonnullN C 7 dX19_inParent_4 rfl ?_
    refine z_null C 8 dX19_inParent_7 rfl ?_
    refine z_goto C 19 dX19_inParent_8 (by decide) ?_
    exact z_aret C dX19_inParent_19 (Or.inl ⟨_, rfl⟩) (Or.inl rfl) (Nat.le_of_ble_eq_true rfl) (Nat.le_of_ble_eq_true rfl) ⟨congrArg some (by unfold upL; rw [if_neg (by omega), sL_nil, xo_n (show ((-1 : Int), V).1 < 0 from (by decide : (-1 : Int) < 0))]; rfl), (congrArg (fun z9 => zP θ (zup M mt (metE θ z9)) N) (by unfold upL; rw [if_neg (by omega), sL_nil]))⟩
  · skip
    rw [xo_y n2]
    refine z_as (st' := [.ref (σ 10 (w 2 (t)))]) (lv' := [(0, .ref (sr)), (1, .ref (σ 10 (t)))]) rfl rfl rfl ?_
    refine z_ifnonnull C 11 dX19_inParent_4 (by decide) ?_
    refine z_aload_n C 12 0 dX19_inParent_11 rfl rfl ?_
    refine z_aload_n C 13 1 dX19_inParent_12 rfl rfl ?_
    refine xv_parent (rest := [.ref (sr)]) C hκ hκl (hX.up hmt) hs hw hT (t)   ⟨(by omega), (by omega)⟩  16 dX19_inParent_13 q982 (Nat.le_of_ble_eq_true rfl) (Nat.le_of_ble_eq_true rfl) (Nat.le_of_ble_eq_true rfl) (Nat.le_of_ble_eq_true rfl) (Nat.le_of_ble_eq_true rfl) rfl ?_
    refine z_as (st' := [va_rf (xo σ 10 (w 2 (t))), .ref (sr)]) rfl rfl rfl ?_
    have y3 : 0 ≤ w 2 (t) := (by omega)
    rw [xo_y y3]
    refine z_as (st' := [.ref (σ 10 (w 2 (t))), .ref (sr)]) (lv' := [(0, .ref (sr)), (1, .ref (σ 10 (t)))]) rfl rfl rfl ?_
    obtain ⟨f4a, f4b, f4c, f4d, f4e, f4f, f4g, f4h⟩ := hS.T (show 0 ≤ w 2 (t) by omega) (by omega)
    obtain ⟨f4i, f4j, f4k, f4l⟩ := hs.ty (show 0 ≤ w 2 (t) by omega) (by omega)
    refine z_callU (owner := RX19) (As := [.ref (σ 10 (w 2 (t)))]) (rest := []) C hκ hκl 19 (ih (w 2 (t)) (V) ⟨by omega, by omega⟩ (by omega)) dX19_inParent_16 q977 q2574 q2576 q944 q113 q945 rfl ⟨by decide, by decide, rfl⟩ (by dsimp only; omega) (by dsimp only; omega) (Nat.le_of_ble_eq_true rfl) (Nat.le_of_ble_eq_true rfl) (zrec_P (show zup M mt _ sr = _ from (zup_n hne).trans hsr)) rfl rfl (Nat.le_of_ble_eq_true rfl) rfl (fun v9 Q9 h9 => ?_)
    obtain ⟨rfl, rfl⟩ := h9
    have hsr9 := sF_r (o := (xmO w t0 m y)) (ch := (xCh w y true)) (N := w 11 0) hor (by omega) fv (w 2 (t)) (V)
    refine z_as (st' := [va_rf (xo σ 20 ((sF (xmO w t0 m y) (xCh w y true) fv (w 2 (t)) (V)).1))]) rfl rfl rfl ?_
    exact z_aret C dX19_inParent_19 (Or.inl ⟨_, rfl⟩) (z_rfv _) (Nat.le_of_ble_eq_true rfl) (Nat.le_of_ble_eq_true rfl) ⟨congrArg some (by unfold upL; rw [if_pos (by omega), sL_one]), (congrArg (fun z9 => zP θ (zup M mt (metE θ z9)) N) (by unfold upL; rw [if_pos (by omega), sL_one]))⟩
set_option maxRecDepth 100000 in
theorem k19_inFaces_20 {l : Launch} {θ : zTh} {σ : xA} {w : mW} {M N : zMap} (hX : xM θ σ w (xL w) M) (hs : xS w) (hw : mWF w) (hT : zTb θ) (sr : Nat) (mt : Nat) (y : Int) (m : Int) (t0 : Int) (fv : Nat) (t : Int) (V : Int → Bool)  (ht : 0 ≤ t ∧ t < w 0 0) (hfu : t < fv + 1) (r_y : inR y) (hsr : M sr = some (.inr (20, [.ref mt, .int (iI y), .ref (σ 0 (0)), .ref (σ 20 (m)), .ref (σ 10 (t0)), .ref (σ 0 (0))]))) (hm : 0 ≤ m ∧ m < w 11 0) (h0 : 0 ≤ t0 ∧ t0 < w 0 0) (hne : sr ≠ mt) (hmt : xFr σ w (xL w) mt) (hUq : xUq w) (ih : xSr l θ σ w M N sr mt (xmO w t0 m y) (xCh w y true) fv) : ZM θ l yX19_inFaces cX19_inFaces 4 (some (.object "ReflectMirror$Member")) ⟨2 * fv + 13, 0, 0, 60 * fv + 430⟩ [.ref (sr), .ref (σ 10 (t))] (zP θ (zup M mt (metE θ V)) N) (zFn (some (va_rf (xo σ 20 ((sL (xmO w t0 m y) (xCh w y true) fv (fcL w t ((w 6 t).toNat)) V).1)))) (zP θ (zup M mt (metE θ ((sL (xmO w t0 m y) (xCh w y true) fv (fcL w t ((w 6 t).toNat)) V).2))) N)) := by
  refine z_start (own := RX19) (nm := "inFaces") pnX19 rfl rfl (Nat.le_of_ble_eq_true rfl) ?_
  intro κ hκ hκl C
  change Z κ (zP θ (zup M mt (metE θ V)) N) 0 0 0 [(0, .ref (sr)), (1, .ref (σ 10 (t)))] []
  have hS := hs.S
  have hB := hS.B
  obtain ⟨hB1, hB2, hB3, hB4, hB5, hB6⟩ := hS.B
  have hC := hS.C
  obtain ⟨h81, h82⟩ := hs.r8
  have hUq9 := hUq
  obtain ⟨f1a, f1b, f1c, f1d, f1e, f1f, f1g, f1h⟩ := hS.T (show 0 ≤ t by omega) (by omega)
  obtain ⟨f1i, f1j, f1k, f1l⟩ := hs.ty (show 0 ≤ t by omega) (by omega)
  have hor : ∀ u, -1 ≤ (xmO w t0 m y) u ∧ (xmO w t0 m y) u < w 11 0 := fun u => xmO_r (by omega)
  refine z_null C 1 dX19_inFaces_0 rfl ?_
  refine z_astore_nN (lv' := [(0, .ref (sr)), (1, .ref (σ 10 (t))), (2, .null)]) C 2 [1, 2, 0] dX19_inFaces_1 (by decide) rfl rfl ?_
  refine z_iconst C 3 dX19_inFaces_2 rfl ?_
  refine z_istore_n (lv' := [(0, .ref (sr)), (1, .ref (σ 10 (t))), (2, .null), (3, .int (iI (0)))]) C 4 [1, 2, 3, 0] dX19_inFaces_3 (by decide) rfl rfl ?_
  have L4_2 : ∀ (fu : Nat) (k : Nat) (z : Int) (V1 : Int → Bool) (hk : (k : Int) ≤ w 6 t) (hz : (sL (xmO w t0 m y) (xCh w y true) fv (fcL w t (k)) V).1 = z) (hv : (sL (xmO w t0 m y) (xCh w y true) fv (fcL w t (k)) V).2 = V1) (hzr : -1 ≤ z ∧ z < w 11 0) (hme : (w 6 t).toNat - k < fu), Z κ (zP θ (zup M mt (metE θ V1)) N) 0 0 4 [(0, .ref (sr)), (1, .ref (σ 10 (t))), (2, va_rf (xo σ 20 (z))), (3, .int (iI ((k : Int))))] [] := by
    intro fu
    induction fu with
    | zero => intro k z V1 hk hz hv hzr hme; exact absurd hme (Nat.not_lt_zero _)
    | succ fu ih3 =>
      intro k z V1 hk hz hv hzr hme
      refine z_iload_n C 5 3 dX19_inFaces_4 rfl rfl ?_
      refine z_aload_n C 6 1 dX19_inFaces_5 rfl rfl ?_
      refine x_tget (v := .int (iI (w 6 (t)))) C hκ 9 3 (hX.up hmt) hs (by omega) (by omega) (by decide) rfl rfl rfl q187 (Or.inl rfl) rfl dX19_inFaces_6 rfl ?_
      refine z_icmp_ge C 33 12 dX19_inFaces_9 (by decide) ⟨by omega, by omega⟩ (hw.r _ _ rfl) rfl (fun c4 => ?_) (fun c4 => ?_)
      · skip
        have hfin : z = (sL (xmO w t0 m y) (xCh w y true) fv (fcL w t ((w 6 t).toNat)) V).1 ∧ V1 = (sL (xmO w t0 m y) (xCh w y true) fv (fcL w t ((w 6 t).toNat)) V).2 := by
          first
            | (have e : k = (w 6 t).toNat := (by omega); rw [← e]; exact ⟨hz.symm, hv.symm⟩)
            | (have e : ∀ j, k ≤ j → sL (xmO w t0 m y) (xCh w y true) fv (fcL w t (j)) V = sL (xmO w t0 m y) (xCh w y true) fv (fcL w t (k)) V := (fun j hj => by induction hj with | refl => rfl | step _ ih9 => rw [sL_fc, if_pos (by rw [ih9, hz]; omega), ih9]); rw [e _ (by omega)]; exact ⟨hz.symm, hv.symm⟩)
        refine z_aload_nq C 34 2 dX19_inFaces_33 rfl rfl ?_
        exact z_aret C dX19_inFaces_34 (Or.inl ⟨_, rfl⟩) (z_rfv _) (Nat.le_of_ble_eq_true rfl) (Nat.le_of_ble_eq_true rfl) ⟨congrArg some (by rw [← hfin.1]), (congrArg (fun z9 => zP θ (zup M mt (metE θ z9)) N) hfin.2)⟩
      · skip
        refine z_aload_nq C 13 2 dX19_inFaces_12 rfl rfl ?_
        rcases Int.lt_or_le (z) 0 with n5 | n5
        · skip
          rw [xo_n n5]
          refine z_as (st' := [.null]) (lv' := [(0, .ref (sr)), (1, .ref (σ 10 (t))), (2, .null), (3, .int (iI ((k : Int))))]) rfl rfl rfl ?_
          refine z_ifnonnullN C 16 dX19_inFaces_13 rfl ?_
          have hf7 := (hS.T ht.1 ht.2).2.2.1 k (by omega) (by omega)
          refine z_aload_n C 17 0 dX19_inFaces_16 rfl rfl ?_
          refine z_aload_n C 18 1 dX19_inFaces_17 rfl rfl ?_
          refine x_tget (v := .ref (σ 11 (t))) C hκ 21 2 (hX.up hmt) hs (by omega) (by omega) (by decide) rfl rfl rfl q183 (Or.inl rfl) rfl dX19_inFaces_18 rfl ?_
          refine z_iload_n C 22 3 dX19_inFaces_21 rfl rfl ?_
          refine x_afc C hκ 23 (hX.up hmt) hs (by omega) (by omega) (by omega) (by omega) dX19_inFaces_22 rfl ?_
          obtain ⟨f6a, f6b, f6c, f6d, f6e, f6f, f6g, f6h⟩ := hS.T (show 0 ≤ w 7 (3 * (t) + ((k : Int))) by omega) (by omega)
          obtain ⟨f6i, f6j, f6k, f6l⟩ := hs.ty (show 0 ≤ w 7 (3 * (t) + ((k : Int))) by omega) (by omega)
          refine z_callU (owner := RX19) (As := [.ref (σ 10 (w 7 (3 * (t) + ((k : Int)))))]) (rest := []) C hκ hκl 26 (ih (w 7 (3 * (t) + ((k : Int)))) (V1) ⟨by omega, by omega⟩ (by omega)) dX19_inFaces_23 q977 q2574 q2576 q944 q113 q945 rfl ⟨by decide, by decide, rfl⟩ (by dsimp only; omega) (by dsimp only; omega) (Nat.le_of_ble_eq_true rfl) (Nat.le_of_ble_eq_true rfl) (zrec_P (show zup M mt _ sr = _ from (zup_n hne).trans hsr)) rfl rfl (Nat.le_of_ble_eq_true rfl) rfl (fun v9 Q9 h9 => ?_)
          obtain ⟨rfl, rfl⟩ := h9
          have hsr9 := sF_r (o := (xmO w t0 m y)) (ch := (xCh w y true)) (N := w 11 0) hor (by omega) fv (w 7 (3 * (t) + ((k : Int)))) (V1)
          refine z_as (st' := [va_rf (xo σ 20 ((sF (xmO w t0 m y) (xCh w y true) fv (w 7 (3 * (t) + ((k : Int)))) (V1)).1))]) rfl rfl rfl ?_
          refine z_astore_nq (lv' := [(0, .ref (sr)), (1, .ref (σ 10 (t))), (2, va_rf (xo σ 20 ((sF (xmO w t0 m y) (xCh w y true) fv (w 7 (3 * (t) + ((k : Int)))) (V1)).1))), (3, .int (iI ((k : Int))))]) C 27 [1, 2, 0, 3] dX19_inFaces_26 (by decide) rfl rfl ?_
          refine z_iinc (lv' := [(0, .ref (sr)), (1, .ref (σ 10 (t))), (2, va_rf (xo σ 20 ((sF (xmO w t0 m y) (xCh w y true) fv (w 7 (3 * (t) + ((k : Int)))) (V1)).1))), (3, .int (iI (((k : Int)) + 1)))]) C 30 3 [1, 2, 3, 0] dX19_inFaces_27 rfl (by decide) (by cases (xo σ 20 ((sF (xmO w t0 m y) (xCh w y true) fv (w 7 (3 * (t) + ((k : Int)))) (V1)).1)) <;> rfl) rfl ?_
          refine z_goto C 4 dX19_inFaces_30 (by decide) ?_
          have hst := sL_fc (w := w) (o := (xmO w t0 m y)) (ch := (xCh w y true)) (n := fv) (t := t) (k := k) (V := V)
          rw [if_neg (by rw [hz]; omega), hv] at hst
          refine z_as (lv' := [(0, .ref (sr)), (1, .ref (σ 10 (t))), (2, va_rf (xo σ 20 (((sF (xmO w t0 m y) (xCh w y true) fv (w 7 (3 * t + (k : Int))) V1).1)))), (3, .int (iI (((k + 1) : Int))))]) rfl rfl rfl ?_
          exact ih3 (k + 1) ((sF (xmO w t0 m y) (xCh w y true) fv (w 7 (3 * t + (k : Int))) V1).1) ((sF (xmO w t0 m y) (xCh w y true) fv (w 7 (3 * t + (k : Int))) V1).2) (by omega) (by rw [hst]) (by rw [hst]) hsr9 (by omega)
        · skip
          rw [xo_y n5]
          refine z_as (st' := [.ref (σ 20 (z))]) (lv' := [(0, .ref (sr)), (1, .ref (σ 10 (t))), (2, .ref (σ 20 (z))), (3, .int (iI ((k : Int))))]) rfl rfl rfl ?_
          refine z_ifnonnull C 33 dX19_inFaces_13 (by decide) ?_
          have hfin : z = (sL (xmO w t0 m y) (xCh w y true) fv (fcL w t ((w 6 t).toNat)) V).1 ∧ V1 = (sL (xmO w t0 m y) (xCh w y true) fv (fcL w t ((w 6 t).toNat)) V).2 := by
            first
              | (have e : k = (w 6 t).toNat := (by omega); rw [← e]; exact ⟨hz.symm, hv.symm⟩)
              | (have e : ∀ j, k ≤ j → sL (xmO w t0 m y) (xCh w y true) fv (fcL w t (j)) V = sL (xmO w t0 m y) (xCh w y true) fv (fcL w t (k)) V := (fun j hj => by induction hj with | refl => rfl | step _ ih9 => rw [sL_fc, if_pos (by rw [ih9, hz]; omega), ih9]); rw [e _ (by omega)]; exact ⟨hz.symm, hv.symm⟩)
          refine z_aload_n C 34 2 dX19_inFaces_33 rfl rfl ?_
          exact z_aret C dX19_inFaces_34 (Or.inl ⟨_, rfl⟩) (Or.inr ⟨_, rfl⟩) (Nat.le_of_ble_eq_true rfl) (Nat.le_of_ble_eq_true rfl) ⟨congrArg some (by rw [← hfin.1]; rw [xo_y (by omega)]; rfl), (congrArg (fun z9 => zP θ (zup M mt (metE θ z9)) N) hfin.2)⟩
  refine z_as (lv' := [(0, .ref (sr)), (1, .ref (σ 10 (t))), (2, va_rf (xo σ 20 (-1))), (3, .int (iI (0)))]) rfl ((congrArg (fun z9 : Value => ([(0, .ref (sr)), (1, .ref (σ 10 (t))), (2, z9), (3, .int (iI (0)))] : List (Nat × Value))) (show .null = va_rf (xo σ 20 (-1)) from (by rw [xo_n (show -1 < 0 by omega)]; rfl)))) rfl ?_
  refine z_as (lv' := [(0, .ref (sr)), (1, .ref (σ 10 (t))), (2, va_rf (xo σ 20 ((-1)))), (3, .int (iI (((0) : Int))))]) rfl rfl rfl ?_
  exact L4_2 _ (0) (-1) (V) (by omega) rfl rfl ⟨by omega, by omega⟩ (Nat.lt_succ_self _)
set_option maxRecDepth 100000 in
theorem k19_from_20 {l : Launch} {θ : zTh} {σ : xA} {w : mW} {M N : zMap} (hX : xM θ σ w (xL w) M) (hs : xS w) (hw : mWF w) (hT : zTb θ) (sr : Nat) (mt : Nat) (y : Int) (m : Int) (t0 : Int) (fv : Nat) (t : Int) (V : Int → Bool)  (ht : 0 ≤ t ∧ t < w 0 0) (hfu : t < fv + 1) (r_y : inR y) (hsr : M sr = some (.inr (20, [.ref mt, .int (iI y), .ref (σ 0 (0)), .ref (σ 20 (m)), .ref (σ 10 (t0)), .ref (σ 0 (0))]))) (hm : 0 ≤ m ∧ m < w 11 0) (h0 : 0 ≤ t0 ∧ t0 < w 0 0) (hne : sr ≠ mt) (hmt : xFr σ w (xL w) mt) (hUq : xUq w) (ih : xSr l θ σ w M N sr mt (xmO w t0 m y) (xCh w y true) fv) : ZM θ l yX19_from cX19_from 3 (some (.object "ReflectMirror$Member")) ⟨2 * (fv + 1) + 12, 0, 0, 60 * (fv + 1) + 400⟩ [.ref (sr), .ref (σ 10 (t))] (zP θ (zup M mt (metE θ V)) N) (zFn (some (va_rf (xo σ 20 ((sF (xmO w t0 m y) (xCh w y true) (fv + 1) t V).1)))) (zP θ (zup M mt (metE θ ((sF (xmO w t0 m y) (xCh w y true) (fv + 1) t V).2))) N)) := by
  refine z_start (own := RX19) (nm := "from") pnX19 rfl rfl (Nat.le_of_ble_eq_true rfl) ?_
  intro κ hκ hκl C
  change Z κ (zP θ (zup M mt (metE θ V)) N) 0 0 0 [(0, .ref (sr)), (1, .ref (σ 10 (t)))] []
  have hS := hs.S
  have hB := hS.B
  obtain ⟨hB1, hB2, hB3, hB4, hB5, hB6⟩ := hS.B
  have hC := hS.C
  obtain ⟨h81, h82⟩ := hs.r8
  have hUq9 := hUq
  obtain ⟨f1a, f1b, f1c, f1d, f1e, f1f, f1g, f1h⟩ := hS.T (show 0 ≤ t by omega) (by omega)
  obtain ⟨f1i, f1j, f1k, f1l⟩ := hs.ty (show 0 ≤ t by omega) (by omega)
  have hor : ∀ u, -1 ≤ (xmO w t0 m y) u ∧ (xmO w t0 m y) u < w 11 0 := fun u => xmO_r (by omega)
  refine z_aload_n C 1 0 dX19_from_0 rfl rfl ?_
  refine z_getf C hκ (v := .ref (mt)) 4 0 zk_X20 (show zup M mt _ sr = _ from (zup_n hne).trans hsr) (by decide) q920 (Or.inl rfl) rfl dX19_from_1 rfl ?_
  refine z_aload_n C 5 1 dX19_from_4 rfl rfl ?_
  refine xv_number (rest := [.ref (mt)]) C hκ hκl (hX.up hmt) hs hw hT (t)   ⟨(by omega), (by omega)⟩  8 dX19_from_5 q946 (Nat.le_of_ble_eq_true rfl) (Nat.le_of_ble_eq_true rfl) (Nat.le_of_ble_eq_true rfl) (Nat.le_of_ble_eq_true rfl) (Nat.le_of_ble_eq_true rfl) rfl ?_
  refine z_as (st' := [.int (iI ((t))), .ref (mt)]) rfl rfl rfl ?_
  refine z_zald (v := iI (bI (V t))) C hκ 9 (zup_s (M := M) (a := mt) (e := metE θ V)) (by omega) (by omega) (by decide) (metE_at (by omega)) dX19_from_8 rfl ?_
  refine z_ifB_eq C 14 12 dX19_from_9 (by decide) rfl (fun c2 => ?_) (fun c2 => ?_)
  · skip
    refine z_aload_n C 15 0 dX19_from_14 rfl rfl ?_
    refine z_getf C hκ (v := .ref (mt)) 18 0 zk_X20 (show zup M mt _ sr = _ from (zup_n hne).trans hsr) (by decide) q920 (Or.inl rfl) rfl dX19_from_15 rfl ?_
    refine z_aload_n C 19 1 dX19_from_18 rfl rfl ?_
    refine xv_number (rest := [.ref (mt)]) C hκ hκl (hX.up hmt) hs hw hT (t)   ⟨(by omega), (by omega)⟩  22 dX19_from_19 q946 (Nat.le_of_ble_eq_true rfl) (Nat.le_of_ble_eq_true rfl) (Nat.le_of_ble_eq_true rfl) (Nat.le_of_ble_eq_true rfl) (Nat.le_of_ble_eq_true rfl) rfl ?_
    refine z_as (st' := [.int (iI ((t))), .ref (mt)]) rfl rfl rfl ?_
    refine z_iconst C 23 dX19_from_22 rfl ?_
    refine z_zast C hκ 24 (zup_s (M := M) (a := mt) (e := metE θ V)) (by omega) (by omega) (by decide) (by decide) (metE_up (V := V) (t := t) (by omega)) dX19_from_23 rfl ?_
    refine z_as (Pic' := zP θ (zup M mt (metE θ (vAdd V t))) N) (congrArg (fun z9 => zP θ z9 N) zup_up) rfl rfl ?_
    refine z_aload_n C 25 0 dX19_from_24 rfl rfl ?_
    refine z_aload_n C 26 1 dX19_from_25 rfl rfl ?_
    refine z_callA (owner := RX19) (As := [.ref (σ 10 (t))]) (rest := []) C hκ hκl hT 29 (k20_own hX hs hw hT (sr) (mt) (y) (m) (t0) (t) (vAdd V t) ⟨by omega, by omega⟩ r_y hsr hm h0 hne hmt hUq9) dX19_from_26 q947 q949 q948 q958 q959 q114 q960 ⟨by decide, by decide, rfl⟩ (by dsimp only; omega) (by dsimp only; omega) (Nat.le_of_ble_eq_true rfl) (Nat.le_of_ble_eq_true rfl) (zrec_P (show zup M mt _ sr = _ from (zup_n hne).trans hsr)) rfl rfl (Nat.le_of_ble_eq_true rfl) rfl (fun v9 Q9 h9 => ?_)
    obtain ⟨rfl, rfl⟩ := h9
    refine z_as (st' := [va_rf (xo σ 20 ((xmO w (t0) (m) (y)) (t)))]) rfl rfl rfl ?_
    have hoo := hor t
    refine z_astore_nq (lv' := [(0, .ref (sr)), (1, .ref (σ 10 (t))), (2, va_rf (xo σ 20 ((xmO w (t0) (m) (y)) (t))))]) C 30 [1, 2, 0] dX19_from_29 (by decide) rfl rfl ?_
    refine z_aload_nq C 31 2 dX19_from_30 rfl rfl ?_
    rcases Int.lt_or_le ((xmO w (t0) (m) (y)) (t)) 0 with n3 | n3
    · skip
      rw [xo_n n3]
      refine z_as (st' := [.null]) (lv' := [(0, .ref (sr)), (1, .ref (σ 10 (t))), (2, .null)]) rfl rfl rfl ?_
      refine z_ifnonnullN C 34 dX19_from_31 rfl ?_
      refine z_aload_n C 35 0 dX19_from_34 rfl rfl ?_
      refine z_getf C hκ (v := .int (iI (y))) 38 1 zk_X20 (show zup M mt _ sr = _ from (zup_n hne).trans hsr) (by decide) q921 (Or.inl rfl) rfl dX19_from_35 rfl ?_
      refine z_if_ne C 43 41 dX19_from_38 (by decide) r_y rfl (fun c4 => ?_) (fun c4 => ?_)
      · skip
        refine z_aload_n C 44 0 dX19_from_43 rfl rfl ?_
        refine z_callU (owner := RX19) (As := []) (rest := []) C hκ hκl 47 (k20_isFaceFirst hX hs hw hT (sr) (mt) (y) (m) (t0) (vAdd V t) r_y hsr hm h0 hne hmt hUq9) dX19_from_44 q965 q967 q971 q966 q113 q972 rfl ⟨by decide, by decide, rfl⟩ (by dsimp only; omega) (by dsimp only; omega) (Nat.le_of_ble_eq_true rfl) (Nat.le_of_ble_eq_true rfl) (zrec_P (show zup M mt _ sr = _ from (zup_n hne).trans hsr)) rfl rfl (Nat.le_of_ble_eq_true rfl) rfl (fun v9 Q9 h9 => ?_)
        obtain ⟨rfl, rfl⟩ := h9
        refine z_as (st' := [.int (iI (bI (false)))]) rfl rfl rfl ?_
        refine z_ifB_eq C 58 50 dX19_from_47 (by decide) rfl (fun c5 => ?_) (fun c5 => absurd c5 (by decide))
        refine z_aload_n C 59 0 dX19_from_58 rfl rfl ?_
        refine z_aload_n C 60 1 dX19_from_59 rfl rfl ?_
        refine z_callP (As := [.ref (σ 10 (t))]) (rest := []) C hκ hκl hT 63 (k19_inParent_20 hX hs hw hT sr mt y m t0 fv t (vAdd V t) ht hfu r_y hsr hm h0 hne hmt hUq9 ih) dX19_from_60 q978 q980 q979 q943 rfl q113 q981 (zNd_of znX19_inParent) (by dsimp only; omega) (by dsimp only; omega) (Nat.le_of_ble_eq_true rfl) (Nat.le_of_ble_eq_true rfl) (zrec_P (show zup M mt _ sr = _ from (zup_n hne).trans hsr)) rfl rfl (Nat.le_of_ble_eq_true rfl) rfl (fun v9 Q9 h9 => ?_)
        obtain ⟨rfl, rfl⟩ := h9
        have hL6 := sL_r (o := (xmO w t0 m y)) (ch := (xCh w y true)) (N := w 11 0) hor (by omega) fv (upL w t) (vAdd V t)
        refine z_as (st' := [va_rf (xo σ 20 ((sL (xmO w t0 m y) (xCh w y true) fv (upL w t) (vAdd V t)).1))]) rfl rfl rfl ?_
        refine z_astore_nq (lv' := [(0, .ref (sr)), (1, .ref (σ 10 (t))), (2, va_rf (xo σ 20 ((sL (xmO w t0 m y) (xCh w y true) fv (upL w t) (vAdd V t)).1)))]) C 64 [1, 2, 0] dX19_from_63 (by decide) rfl rfl ?_
        refine z_aload_nq C 65 2 dX19_from_64 rfl rfl ?_
        rcases Int.lt_or_le ((sL (xmO w t0 m y) (xCh w y true) fv (upL w t) (vAdd V t)).1) 0 with n7 | n7
        · skip
          rw [xo_n n7]
          refine z_as (st' := [.null]) (lv' := [(0, .ref (sr)), (1, .ref (σ 10 (t))), (2, .null)]) rfl rfl rfl ?_
          refine z_ifnullN C 72 dX19_from_65 (by decide) ?_
          refine z_aload_n C 73 0 dX19_from_72 rfl rfl ?_
          refine z_callU (owner := RX19) (As := []) (rest := []) C hκ hκl 76 (k20_isFaceFirst hX hs hw hT (sr) (mt) (y) (m) (t0) ((sL (xmO w t0 m y) (xCh w y true) fv (upL w t) (vAdd V t)).2) r_y hsr hm h0 hne hmt hUq9) dX19_from_73 q965 q967 q971 q966 q113 q972 rfl ⟨by decide, by decide, rfl⟩ (by dsimp only; omega) (by dsimp only; omega) (Nat.le_of_ble_eq_true rfl) (Nat.le_of_ble_eq_true rfl) (zrec_P (show zup M mt _ sr = _ from (zup_n hne).trans hsr)) rfl rfl (Nat.le_of_ble_eq_true rfl) rfl (fun v9 Q9 h9 => ?_)
          obtain ⟨rfl, rfl⟩ := h9
          refine z_as (st' := [.int (iI (bI (false)))]) rfl rfl rfl ?_
          refine z_ifB_eq C 87 79 dX19_from_76 (by decide) rfl (fun c8 => ?_) (fun c8 => absurd c8 (by decide))
          refine z_aload_n C 88 0 dX19_from_87 rfl rfl ?_
          refine z_aload_n C 89 1 dX19_from_88 rfl rfl ?_
          refine z_callP (As := [.ref (σ 10 (t))]) (rest := []) C hκ hκl hT 92 (k19_inFaces_20 hX hs hw hT sr mt y m t0 fv t ((sL (xmO w t0 m y) (xCh w y true) fv (upL w t) (vAdd V t)).2) ht hfu r_y hsr hm h0 hne hmt hUq9 ih) dX19_from_89 q973 q975 q974 q943 rfl q113 q976 (zNd_of znX19_inFaces) (by dsimp only; omega) (by dsimp only; omega) (Nat.le_of_ble_eq_true rfl) (Nat.le_of_ble_eq_true rfl) (zrec_P (show zup M mt _ sr = _ from (zup_n hne).trans hsr)) rfl rfl (Nat.le_of_ble_eq_true rfl) rfl (fun v9 Q9 h9 => ?_)
          obtain ⟨rfl, rfl⟩ := h9
          have hL9 := sL_r (o := (xmO w t0 m y)) (ch := (xCh w y true)) (N := w 11 0) hor (by omega) fv (fcL w t (w 6 t).toNat) ((sL (xmO w t0 m y) (xCh w y true) fv (upL w t) (vAdd V t)).2)
          refine z_as (st' := [va_rf (xo σ 20 ((sL (xmO w t0 m y) (xCh w y true) fv (fcL w t (w 6 t).toNat) ((sL (xmO w t0 m y) (xCh w y true) fv (upL w t) (vAdd V t)).2)).1))]) rfl rfl rfl ?_
          exact z_aret C dX19_from_92 (Or.inl ⟨_, rfl⟩) (z_rfv _) (Nat.le_of_ble_eq_true rfl) (Nat.le_of_ble_eq_true rfl) ⟨congrArg some (by rw [(sF3 (n := fv) (o := (xmO w t0 m y)) (ch := (xCh w y true)) (t := t) (V := V) (by assumption) (by omega) (show (xCh w y true) t = (upL w t) ++ (fcL w t (w 6 t).toNat) by unfold xCh chL; rw [if_neg (by omega)]; rfl)).trans (if_neg (by omega))]), (congrArg (fun z9 => zP θ (zup M mt (metE θ z9)) N) (by rw [(sF3 (n := fv) (o := (xmO w t0 m y)) (ch := (xCh w y true)) (t := t) (V := V) (by assumption) (by omega) (show (xCh w y true) t = (upL w t) ++ (fcL w t (w 6 t).toNat) by unfold xCh chL; rw [if_neg (by omega)]; rfl)).trans (if_neg (by omega))]))⟩
        · skip
          rw [xo_y n7]
          refine z_as (st' := [.ref (σ 20 ((sL (xmO w t0 m y) (xCh w y true) fv (upL w t) (vAdd V t)).1))]) (lv' := [(0, .ref (sr)), (1, .ref (σ 10 (t))), (2, .ref (σ 20 ((sL (xmO w t0 m y) (xCh w y true) fv (upL w t) (vAdd V t)).1)))]) rfl rfl rfl ?_
          refine z_ifnull C 68 dX19_from_65 rfl ?_
          refine z_aload_n C 69 2 dX19_from_68 rfl rfl ?_
          refine z_goto C 92 dX19_from_69 (by decide) ?_
          exact z_aret C dX19_from_92 (Or.inl ⟨_, rfl⟩) (Or.inr ⟨_, rfl⟩) (Nat.le_of_ble_eq_true rfl) (Nat.le_of_ble_eq_true rfl) ⟨congrArg some (by rw [(sF3 (n := fv) (o := (xmO w t0 m y)) (ch := (xCh w y true)) (t := t) (V := V) (by assumption) (by omega) (show (xCh w y true) t = (upL w t) ++ (fcL w t (w 6 t).toNat) by unfold xCh chL; rw [if_neg (by omega)]; rfl)).trans (if_pos (by omega))]; exact congrArg va_rf (xo_y (by omega)).symm), (congrArg (fun z9 => zP θ (zup M mt (metE θ z9)) N) (by rw [(sF3 (n := fv) (o := (xmO w t0 m y)) (ch := (xCh w y true)) (t := t) (V := V) (by assumption) (by omega) (show (xCh w y true) t = (upL w t) ++ (fcL w t (w 6 t).toNat) by unfold xCh chL; rw [if_neg (by omega)]; rfl)).trans (if_pos (by omega))]))⟩
      · skip
        refine z_aload_nN C 42 2 dX19_from_41 rfl rfl ?_
        exact z_aret C dX19_from_42 (Or.inl ⟨_, rfl⟩) (Or.inl rfl) (Nat.le_of_ble_eq_true rfl) (Nat.le_of_ble_eq_true rfl) ⟨congrArg some (by rw [sF0 (n := fv) (o := (xmO w t0 m y)) (ch := (xCh w y true)) (t := t) (V := V) (by assumption) (by omega) (by unfold xCh; rw [if_pos (by omega)]), xo_n (show ((-1 : Int), vAdd V t).1 < 0 from (by decide : (-1 : Int) < 0))]; rfl), (congrArg (fun z9 => zP θ (zup M mt (metE θ z9)) N) (by rw [sF0 (n := fv) (o := (xmO w t0 m y)) (ch := (xCh w y true)) (t := t) (V := V) (by assumption) (by omega) (by unfold xCh; rw [if_pos (by omega)])]))⟩
    · skip
      rw [xo_y n3]
      refine z_as (st' := [.ref (σ 20 ((xmO w (t0) (m) (y)) (t)))]) (lv' := [(0, .ref (sr)), (1, .ref (σ 10 (t))), (2, .ref (σ 20 ((xmO w (t0) (m) (y)) (t))))]) rfl rfl rfl ?_
      refine z_ifnonnull C 41 dX19_from_31 (by decide) ?_
      refine z_aload_n C 42 2 dX19_from_41 rfl rfl ?_
      exact z_aret C dX19_from_42 (Or.inl ⟨_, rfl⟩) (Or.inr ⟨_, rfl⟩) (Nat.le_of_ble_eq_true rfl) (Nat.le_of_ble_eq_true rfl) ⟨congrArg some (by rw [sF2 (n := fv) (o := (xmO w t0 m y)) (ch := (xCh w y true)) (t := t) (V := V) (by assumption) (by omega)]; exact congrArg va_rf (xo_y (show 0 ≤ (xmO w t0 m y) t by omega)).symm), (congrArg (fun z9 => zP θ (zup M mt (metE θ z9)) N) (by rw [sF2 (n := fv) (o := (xmO w t0 m y)) (ch := (xCh w y true)) (t := t) (V := V) (by assumption) (by omega)]))⟩
  · skip
    refine z_null C 13 dX19_from_12 rfl ?_
    exact z_aret C dX19_from_13 (Or.inl ⟨_, rfl⟩) (Or.inl rfl) (Nat.le_of_ble_eq_true rfl) (Nat.le_of_ble_eq_true rfl) ⟨congrArg some (by rw [sF1 (n := fv) (o := (xmO w t0 m y)) (ch := (xCh w y true)) (by assumption), xo_n (show ((-1 : Int), V).1 < 0 from (by decide : (-1 : Int) < 0))]; rfl), (congrArg (fun z9 => zP θ (zup M mt (metE θ z9)) N) (by rw [sF1 (n := fv) (o := (xmO w t0 m y)) (ch := (xCh w y true)) (by assumption)]))⟩
theorem xSr_all_20 {l : Launch} {θ : zTh} {σ : xA} {w : mW} {M N : zMap} (hX : xM θ σ w (xL w) M) (hs : xS w) (hw : mWF w) (hT : zTb θ) (sr : Nat) (mt : Nat) (y : Int) (m : Int) (t0 : Int) (r_y : inR y) (hsr : M sr = some (.inr (20, [.ref mt, .int (iI y), .ref (σ 0 (0)), .ref (σ 20 (m)), .ref (σ 10 (t0)), .ref (σ 0 (0))]))) (hm : 0 ≤ m ∧ m < w 11 0) (h0 : 0 ≤ t0 ∧ t0 < w 0 0) (hne : sr ≠ mt) (hmt : xFr σ w (xL w) mt) (hUq : xUq w) : ∀ fv : Nat, xSr l θ σ w M N sr mt (xmO w t0 m y) (xCh w y true) fv
  | 0 => fun t V ht h => by omega
  | fv + 1 => fun t V ht h => k19_from_20 hX hs hw hT sr mt y m t0 fv t V ht (by omega) r_y hsr hm h0 hne hmt hUq (xSr_all_20 hX hs hw hT sr mt y m t0 r_y hsr hm h0 hne hmt hUq fv)
