/-! ===== a thing into a row of things ===== -/
section XAA
variable {κ : zK} {own nm : String} {cc : ByteArray} {nL : Nat} {ret : Option FieldType} {rm : Room} {P : Option Value → (Heap → Prop) → Prop} {n k pc : Nat} {lv : List (Nat × Value)} {st rest : List Value}
variable {θ : zTh} {l : Launch} {σ : xA} {w : mW} {Lf : Int → List Int} {M N : zMap} {a ln : Nat} {t i z : Int} {f : Nat → Option Nat}
theorem x_aast (C : ZC κ own nm cc nL ret rm P) (hκ : κ.1 = θ) (hκl : κ.2.2.1 = l) (hT : zTb θ) (hZ : zTx θ l) (hX : xM θ σ w Lf M) (hs : xS w) (q : Nat) (hM : M a = some (.inl (xcA θ w t, ln, xQ f))) (h8 : 8 ≤ t) (ht : t < w 0 0) (hz : -1 ≤ z ∧ z < w 27 0) (hTh : ∀ x : Int, 0 ≤ x → x < w 27 0 → w 29 x = -1 → w 1 (w 28 x) ≠ 4) (h0 : 0 ≤ i) (h1 : i < (ln : Int)) (hln : ln ≤ 1000) (d : decode cc pc = .ok (.aastore, 1)) (hf : 9 ≤ rm.frames) (hlo : 10250 ≤ rm.locals) (hsz : (rest.map fun v => v.category).sum ≤ 8) (hce : n + 3 ≤ rm.cells) (hsl : k + 250 ≤ rm.slots) (hq : pc + 1 = q)
    (kk : Z κ (zP θ (zup M a (.inl (xcA θ w t, ln, xQ (va_up f i.toNat (xo σ 30 z))))) N) n k q lv rest) (kx : 0 ≤ z → isa w (w 28 z) t = false → ∀ b : Nat, zX κ (zP θ M N) (n + 3) (k + 250) pc lv b "java/lang/ArrayStoreException") : Z κ (zP θ M N) n k pc lv (va_rf (xo σ 30 z) :: .int (iI i) :: .ref a :: rest) := by
  have hx9 : ∃ (t0 : Nat) (E : String), (zTys θ)[t0]? = some (xcA θ w t, .object E) ∧ ((t = 8 ∧ E = "ReflectMirror$Thing") ∨ (9 ≤ t ∧ w 1 t = 4 ∧ E = "ReflectMirror$Many") ∨ (9 ≤ t ∧ w 1 t ≠ 4 ∧ E = "ReflectMirror$One")) := by
    unfold xcA
    by_cases e8 : t = 8
    · rw [if_pos e8]; exact ⟨10, _, rfl, Or.inl ⟨e8, rfl⟩⟩
    · rw [if_neg e8]
      by_cases e4 : w 1 t = 4
      · rw [if_pos e4]; exact ⟨13, _, rfl, Or.inr (Or.inl ⟨by omega, e4, rfl⟩)⟩
      · rw [if_neg e4]; exact ⟨12, _, rfl, Or.inr (Or.inr ⟨by omega, e4, rfl⟩)⟩
  obtain ⟨t0, E, hty, hE⟩ := hx9
  by_cases hz0 : z < 0
  · rw [xo_n hz0] at kk ⊢
    exact z_qastN C hκ q t0 hM hty h0 h1 (by omega) rfl d hq kk
  · rw [xo_y (by omega)] at kk ⊢
    by_cases h29 : w 29 z = -1
    · have hv := hX.one (by omega) hz.2 h29
      have hc : zCl[24]? = some ("ReflectMirror$One", _, _) := rfl
      rcases hE with ⟨_, rfl⟩ | ⟨g9, g4, rfl⟩ | ⟨g9, g4, rfl⟩
      · exact z_qastO C hκ hT q t0 hM hty hv hc q2588 h0 h1 (by omega) rfl d hq kk
      · refine zx_aastNo C hκ hκl hT hZ t0 hM hty hv hc (by decide +kernel) (by decide +kernel) (by decide +kernel) h0 h1 (by omega) d hf hlo hsz hce hsl (kx (by omega) ?_)
        cases hi : isa w (w 28 z) t with
        | false => rfl
        | true => exact absurd ((go_cls hs (by omega) hz.2 g9 ht hi).1 g4) (hTh z (by omega) hz.2 h29)
      · exact z_qast C hκ q t0 hM hty hv hc h0 h1 (by omega) rfl d hq kk
    · have hv := hX.many (by omega) hz.2 h29
      have hc : zCl[27]? = some ("ReflectMirror$Many", _, _) := rfl
      rcases hE with ⟨_, rfl⟩ | ⟨g9, g4, rfl⟩ | ⟨g9, g4, rfl⟩
      · exact z_qastO C hκ hT q t0 hM hty hv hc q2589 h0 h1 (by omega) rfl d hq kk
      · exact z_qast C hκ q t0 hM hty hv hc h0 h1 (by omega) rfl d hq kk
      · refine zx_aastNo C hκ hκl hT hZ t0 hM hty hv hc (by decide +kernel) (by decide +kernel) (by decide +kernel) h0 h1 (by omega) d hf hlo hsz hce hsl (kx (by omega) ?_)
        cases hi : isa w (w 28 z) t with
        | false => rfl
        | true => exact absurd ((go_cls hs (by omega) hz.2 g9 ht hi).2 g4) h29
end XAA

