/-! ===== save ===== -/
/-- a thing that goes into a row -/
def goB (w : mW) (z t : Int) : Prop := -1 ≤ z ∧ z < w 27 0 ∧ (0 ≤ z → isa w (w 28 z) t = true)
theorem sv_8 {t i : Int} {ln : Nat} (h : 8 ≤ t) (h2 : 0 ≤ i) (h3 : i < (ln : Int)) : svE t ln i 8 = 0 := by unfold svE; rw [if_neg (by omega), if_neg (by omega), if_neg (by simp)]
theorem sv_8o {t i : Int} {ln : Nat} (h : 8 ≤ t) (h2 : i < 0 ∨ (ln : Int) ≤ i) : svE t ln i 8 = 3 := by unfold svE; rw [if_neg (by omega), if_pos h2]
/-- above what is no row are no rows -/
theorem isa_n4 {w : mW} (hs : xS w) {b : Int} (hb0 : 0 ≤ b) (hb1 : b < w 0 0) : ∀ (n : Nat) (t : Int), t.toNat < n → 8 ≤ t → t < w 0 0 → w 1 t ≠ 4 → isa w t b = true → b = 8 ∨ w 1 b ≠ 4
  | 0, t, hn, _, _, _, _ => by omega
  | n + 1, t, hn, h8, h1, h4, h => by
    rw [(hs.1 t (by omega) h1).2 b hb0 hb1, isaL_eq hs.2.2.1 (by omega) h1] at h
    obtain ⟨m1, m2, m3, m4, -⟩ := hs.2.2.1 t (by omega) h1
    have hrec : ∀ u : Int, 8 ≤ u → u < t → w 1 u ≠ 4 → isaL w u b = true → b = 8 ∨ w 1 b ≠ 4 := fun u g1 g2 g3 g4 => isa_n4 hs hb0 hb1 n u (by omega) g1 (by omega) g3 (by rw [(hs.1 u (by omega) (by omega)).2 b hb0 hb1]; exact g4)
    have hrow : rowS w (isaL w) t b = false := by unfold rowS; simp [h4]
    unfold isaS at h
    rw [if_neg (by omega), hrow, Bool.or_false] at h
    unfold is2S is1S basB at h
    rw [Bool.or_eq_true, Bool.or_eq_true, Bool.or_eq_true] at h
    rcases h with ((h | h) | h) | h
    · have : t = b := of_decide_eq_true h
      subst this; exact Or.inr h4
    · simp at h; exact Or.inl h.2
    · simp only [Bool.and_eq_true, decide_eq_true_eq] at h
      obtain ⟨⟨c1, c2⟩, c3⟩ := h
      have c4 := (xS.up hs (by omega) h1).1 c1 c2
      refine hrec (w 2 t) (m2 c1 c2) (by omega) ?_ c3
      unfold clT at c4
      simp at c4
      omega
    · obtain ⟨j, j1, j2⟩ := anyN_t.mp h
      have c4 := (xS.up hs (by omega) h1).2 (j : Int) (by omega) (by omega)
      have c5 := m4 (j : Int) (by omega) (by omega)
      exact hrec _ c5.1 c5.2 (by omega) j2
/-- of which class the things of a row are -/
theorem go_cls {w : mW} (hs : xS w) {z t : Int} (h0 : 0 ≤ z) (hz : z < w 27 0) (h8 : 9 ≤ t) (ht : t < w 0 0) (h : isa w (w 28 z) t = true) : (w 1 t = 4 → w 1 (w 28 z) = 4) ∧ (w 1 t ≠ 4 → w 29 z = -1) := by
  have hX := hs.2.1.X h0 hz
  refine ⟨fun h4 => ?_, fun h4 => ?_⟩
  · by_cases e : w 1 (w 28 z) = 4
    · exact e
    · exfalso
      rcases isa_n4 hs (by omega) ht _ _ (Nat.lt_succ_self _) hX.1.1 hX.1.2 e h with h9 | h9
      · omega
      · exact h9 h4
  · by_cases e : w 29 z = -1
    · exact e
    · obtain ⟨a1, -⟩ := hX.2.2 e
      rcases isa_4 hs (by have := hX.1; omega) hX.1.2 a1 (by omega) ht h with h9 | h9
      · omega
      · exact absurd h9 h4
section XS8
variable {κ : zK} {nm : String} {cc : ByteArray} {nL : Nat} {ret : Option FieldType} {rm : Room} {P : Option Value → (Heap → Prop) → Prop} {n k pc : Nat} {lv : List (Nat × Value)} {st rest : List Value}
variable {θ : zTh} {l : Launch} {σ : xA} {w : mW} {Lf : Int → List Int} {M N : zMap} {a ln : Nat} {t i z : Int} {v : Nat → Int} {e : va_E}
theorem x_sv8 (C : ZC κ "ReflectMirror" nm cc nL ret rm P) (hκ : κ.1 = θ) (hκl : κ.2.2.1 = l) (hT : zTb θ) (hZ : zTx θ l) (hX : xM θ σ w Lf M) (hs : xS w) (q : Nat) (hM : M a = some e) (hr : xRow θ σ w t ln v e) (h8 : 8 ≤ t) (ht : t < w 0 0) (hz : goB w z t) (hTh : ∀ x : Int, 0 ≤ x → x < w 27 0 → w 29 x = -1 → w 1 (w 28 x) ≠ 4) (hln : ln ≤ 1000) (ri : inR i) (d : decode cc pc = .ok (.invokestatic 180, 3)) (hf : 9 ≤ rm.frames) (hlo : 10250 ≤ rm.locals) (hsz : (rest.map fun v => v.category).sum ≤ 8) (hce : n + 1 ≤ rm.cells) (hsl : k + 6 ≤ rm.slots) (hq : pc + 3 = q)
    (kk : ∀ e' : va_E, svE t ln i 8 = 0 → xRow θ σ w t ln (svU v i z) e' → Z κ (zP θ (zup M a e') N) n k q lv rest) (kx : ∀ (E : String) (c : Int) (b : Nat), svE t ln i 8 = c → c ≠ 0 → xEz E c → zX κ (zP θ M N) (n + 1) (k + 6) pc lv b E) : Z κ (zP θ M N) n k pc lv (va_rf (xo σ 30 z) :: .int (iI i) :: .ref a :: rest) := by
  rcases hr with ⟨r1, r2, -⟩ | ⟨r1, -⟩ | ⟨r1, -⟩ | ⟨r1, -⟩ | ⟨r1, f, rfl, r3⟩
  · omega
  · omega
  · omega
  · omega
  · have hx9 : ∃ (t0 : Nat) (E : String), (zTys θ)[t0]? = some (xcA θ w t, .object E) ∧ ((t = 8 ∧ E = "ReflectMirror$Thing") ∨ (9 ≤ t ∧ w 1 t = 4 ∧ E = "ReflectMirror$Many") ∨ (9 ≤ t ∧ w 1 t ≠ 4 ∧ E = "ReflectMirror$One")) := by
      unfold xcA
      by_cases e8 : t = 8
      · rw [if_pos e8]; exact ⟨10, _, rfl, Or.inl ⟨e8, rfl⟩⟩
      · rw [if_neg e8]
        by_cases e4 : w 1 t = 4
        · rw [if_pos e4]; exact ⟨13, _, rfl, Or.inr (Or.inl ⟨by omega, e4, rfl⟩)⟩
        · rw [if_neg e4]; exact ⟨12, _, rfl, Or.inr (Or.inr ⟨by omega, e4, rfl⟩)⟩
    obtain ⟨t0, E, hty, hE⟩ := hx9
    obtain ⟨z1, z2, z3⟩ := hz
    by_cases hin : 0 ≤ i ∧ i < (ln : Int)
    · have hrow : ∀ o : Option Nat, o = xo σ 30 z → xRow θ σ w t ln (svU v i z) (.inl (xcA θ w t, ln, xQ (va_up f i.toNat o))) := fun o ho => Or.inr (Or.inr (Or.inr (Or.inr ⟨r1, _, rfl, svu_at (g := fun y => xo σ 30 y) hin.1 r3 ho⟩)))
      by_cases hz0 : z < 0
      · rw [xo_n hz0]
        exact zn_stNull C hκ hκl hT q hM hty trivial hin.1 hin.2 (show ln ≤ 2147483647 by omega) zc_set d (by omega) (by omega) hsz hq (kk _ (sv_8 h8 hin.1 hin.2) (hrow none (xo_n hz0).symm))
      · rw [xo_y (by omega)]
        have hgo := z3 (by omega)
        by_cases h1 : w 29 z = -1
        · refine zn_stOk C hκ hκl hT q (hX.one (by omega) z2 h1) (show zCl[24]? = some ("ReflectMirror$One", _, _) from rfl) ?_ hM hty trivial hin.1 hin.2 (show ln ≤ 2147483647 by omega) zc_set d (by omega) (by omega) hsz hq (kk _ (sv_8 h8 hin.1 hin.2) (hrow (some _) (xo_y (by omega)).symm))
          rcases hE with ⟨_, rfl⟩ | ⟨g9, g4, rfl⟩ | ⟨g9, g4, rfl⟩
          · exact Or.inr q2588
          · exfalso
            have g5 := (go_cls hs (by omega) z2 g9 ht hgo).1 g4
            exact (hTh z (by omega) z2 h1) g5
          · exact Or.inl rfl
        · refine zn_stOk C hκ hκl hT q (hX.many (by omega) z2 h1) (show zCl[27]? = some ("ReflectMirror$Many", _, _) from rfl) ?_ hM hty trivial hin.1 hin.2 (show ln ≤ 2147483647 by omega) zc_set d (by omega) (by omega) hsz hq (kk _ (sv_8 h8 hin.1 hin.2) (hrow (some _) (xo_y (by omega)).symm))
          rcases hE with ⟨_, rfl⟩ | ⟨g9, g4, rfl⟩ | ⟨g9, g4, rfl⟩
          · exact Or.inr q2589
          · exact Or.inl rfl
          · exact absurd ((go_cls hs (by omega) z2 g9 ht hgo).2 g4) h1
    · have hout : i < 0 ∨ (ln : Int) ≤ i := by omega
      by_cases hz0 : z < 0
      · rw [xo_n hz0]
        exact zn_stOutN C hκ hκl hT hZ hM hty ri hout zc_set d hf hlo hsz hce hsl (fun b => kx _ 3 b (sv_8o h8 hout) (by decide) (Or.inr (Or.inr (Or.inl ⟨rfl, rfl⟩))))
      · rw [xo_y (by omega)]
        exact zn_stOut C hκ hκl hT hZ hM hty ri hout zc_set d hf hlo hsz hce hsl (fun b => kx _ 3 b (sv_8o h8 hout) (by decide) (Or.inr (Or.inr (Or.inl ⟨rfl, rfl⟩))))
end XS8

