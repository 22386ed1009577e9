section XIs
variable {w : mW}
theorem mem_facS {rec : Int → List Int} {t b : Int} {L0 : List Int} : ∀ n : Nat, b ∈ facS w rec t L0 n ↔ b ∈ L0 ∨ ∃ j : Nat, j < n ∧ b ∈ rec (w 7 (3 * t + j)) ∧ (clT w t = true ∨ b ≠ 8)
  | 0 => by simp [facS]
  | n + 1 => by
    simp only [facS]
    rw [mem_adA, mem_facS n]
    constructor
    · rintro ((h | ⟨j, h1, h2⟩) | ⟨h1, h2⟩)
      · exact Or.inl h
      · exact Or.inr ⟨j, by omega, h2⟩
      · exact Or.inr ⟨n, by omega, h1, h2⟩
    · rintro (h | ⟨j, h1, h2, h3⟩)
      · exact Or.inl (Or.inl h)
      · by_cases e : j = n
        · subst e; exact Or.inr ⟨h2, h3⟩
        · exact Or.inl (Or.inr ⟨j, by omega, h2, h3⟩)
theorem mem_ancS {rec : Int → List Int} {t b : Int} (h8 : 8 ≤ t) : b ∈ ancS w rec t ↔ b = t ∨ b = 8 ∨ (clT w t = true ∧ t ≠ 8 ∧ b ∈ rec (w 2 t)) ∨ ∃ j : Nat, j < (w 6 t).toNat ∧ b ∈ rec (w 7 (3 * t + j)) := by
  unfold ancS
  rw [if_neg (by omega), mem_adL, mem_facS]
  have e1 : b ∈ ancS1 w rec t ↔ b = t ∨ (clT w t = true ∧ t ≠ 8 ∧ b ∈ rec (w 2 t)) := by
    unfold ancS1
    by_cases hc : (clT w t && decide (t ≠ 8)) = true
    · rw [if_pos hc, mem_adA]
      rw [Bool.and_eq_true] at hc
      have hc2 := of_decide_eq_true hc.2
      simp [hc.1, hc2]
    · rw [if_neg hc]
      rw [Bool.and_eq_true, not_and] at hc
      simp only [List.mem_singleton]
      constructor
      · exact Or.inl
      · rintro (h | ⟨h1, h2, h3⟩)
        · exact h
        · exact absurd (decide_eq_true h2) (hc h1)
  rw [e1]
  constructor
  · rintro ((h | ⟨j, h1, h2, h3⟩) | h)
    · rcases h with h | h
      · exact Or.inl h
      · exact Or.inr (Or.inr (Or.inl h))
    · exact Or.inr (Or.inr (Or.inr ⟨j, h1, h2⟩))
    · exact Or.inr (Or.inl h)
  · rintro (h | h | h | ⟨j, h1, h2⟩)
    · exact Or.inl (Or.inl (Or.inl h))
    · exact Or.inr h
    · exact Or.inl (Or.inl (Or.inr h))
    · by_cases e : b = 8
      · exact Or.inr e
      · exact Or.inl (Or.inr ⟨j, h1, h2, Or.inr e⟩)
theorem xI_mem (hs : xS w) : ∀ (fu : Nat) (t b : Int), 8 ≤ t → t < w 0 0 → t < fu → b ∈ ancL w t → 8 ≤ b ∧ b < w 0 0
  | 0, t, b, h8, _, hf, _ => by omega
  | fu + 1, t, b, h8, h1, hf, hb => by
    have hB := hs.S.B.1
    obtain ⟨b1, b2, b3, b4, b5⟩ := hs.BT t (by omega) h1
    rw [ancL_eq hs.BT (by omega) h1, mem_ancS h8] at hb
    rcases hb with h | h | ⟨g1, g2, g3⟩ | ⟨j, g1, g2⟩
    · omega
    · omega
    · exact xI_mem hs fu _ b (b2 g1 g2) (by omega) (by omega) g3
    · have := b4 j (by omega) (by omega)
      exact xI_mem hs fu _ b this.1 (by omega) (by omega) g2
theorem anc_r (hs : xS w) {t b : Int} (h8 : 8 ≤ t) (h1 : t < w 0 0) (hb : b ∈ ancL w t) : 8 ≤ b ∧ b < w 0 0 := xI_mem hs (t.toNat + 1) t b h8 h1 (by omega) hb
theorem row_no {rec : Int → Int → Bool} {t b : Int} (h : w 1 t ≠ 4) : rowS w rec t b = false := by unfold rowS; simp [h]
theorem xI_lawF (hs : xS w) (b : Int) : ∀ (fu : Nat) (t : Int), 8 ≤ t → t < w 0 0 → t < fu → isaL w t b = (decide (b ∈ ancL w t) || rowS w (isaL w) t b)
  | 0, t, h8, _, hf => by omega
  | fu + 1, t, h8, h1, hf => by
    have hB := hs.S.B.1
    obtain ⟨b1, b2, b3, b4, b5⟩ := hs.BT t (by omega) h1
    obtain ⟨u1, u2⟩ := hs.up (by omega) h1
    rw [isaL_eq hs.BT (by omega) h1]
    unfold isaS
    rw [if_neg (by omega)]
    congr 1
    have e : is2S w (isaL w) t b (w 6 t).toNat = true ↔ b ∈ ancL w t := by
      rw [ancL_eq hs.BT (by omega) h1, mem_ancS h8]
      unfold is2S is1S basB
      rw [Bool.or_eq_true, Bool.or_eq_true, anyN_t]
      have f1 : clT w t = true → t ≠ 8 → (isaL w (w 2 t) b = true ↔ b ∈ ancL w (w 2 t)) := fun c1 c2 => by
        have hc := u1 c1 c2
        have h4 : w 1 (w 2 t) ≠ 4 := by unfold clT at hc; simp at hc; omega
        rw [xI_lawF hs b fu _ (b2 c1 c2) (by omega) (by omega), row_no h4, Bool.or_false, decide_eq_true_iff]
      have f2 : ∀ j : Nat, j < (w 6 t).toNat → (isaL w (w 7 (3 * t + j)) b = true ↔ b ∈ ancL w (w 7 (3 * t + j))) := fun j hj => by
        have h5 := b4 j (by omega) (by omega)
        have h6 := u2 j (by omega) (by omega)
        rw [xI_lawF hs b fu _ h5.1 (by omega) (by omega), row_no (by omega), Bool.or_false, decide_eq_true_iff]
      constructor
      · rintro ((h | h) | ⟨j, g1, g2⟩)
        · simp at h; rcases h with h | ⟨_, h⟩
          · exact Or.inl h.symm
          · exact Or.inr (Or.inl h)
        · simp only [Bool.and_eq_true, decide_eq_true_eq] at h
          exact Or.inr (Or.inr (Or.inl ⟨h.1.1, h.1.2, (f1 h.1.1 h.1.2).mp h.2⟩))
        · exact Or.inr (Or.inr (Or.inr ⟨j, g1, (f2 j g1).mp g2⟩))
      · rintro (h | h | ⟨g1, g2, g3⟩ | ⟨j, g1, g2⟩)
        · exact Or.inl (Or.inl (by simp [h]))
        · exact Or.inl (Or.inl (by simp [h, h8]))
        · exact Or.inl (Or.inr (by simp only [Bool.and_eq_true, decide_eq_true_eq]; exact ⟨⟨g1, g2⟩, (f1 g1 g2).mpr g3⟩))
        · exact Or.inr ⟨j, g1, (f2 j g1).mpr g2⟩
    by_cases hb : b ∈ ancL w t
    · rw [e.mpr hb, decide_eq_true hb]
    · rw [Bool.eq_false_iff.mpr (fun h => hb (e.mp h)), decide_eq_false hb]
theorem xI_law (hs : xS w) {t b : Int} (h8 : 8 ≤ t) (h1 : t < w 0 0) : isaL w t b = (decide (b ∈ ancL w t) || rowS w (isaL w) t b) := xI_lawF hs b (t.toNat + 1) t h8 h1 (by omega)
theorem xL_8 {t : Int} (h : 8 ≤ t) : xL w t = ancL w t := if_neg (by omega)
theorem xL_0 {t : Int} (h : t < 8) : xL w t = [t] := if_pos h
theorem gi_ref (hs : xS w) {t b : Int} (h8 : 8 ≤ t) (h1 : t < w 0 0) (h4 : w 1 t ≠ 4) (b0 : 0 ≤ b) (b1 : b < w 0 0) : giB w t b = decide (b ∈ xL w t) := by
  unfold giB
  rw [if_neg (by omega), xL_8 h8, (hs.1 t (by omega) h1).2 b b0 b1, xI_law hs h8 h1, row_no h4, Bool.or_false]
  by_cases hb : b ∈ ancL w t
  · have := anc_r hs h8 h1 hb
    simp [hb]; omega
  · simp [hb]
theorem gi_row (hs : xS w) {t b : Int} (h8 : 8 ≤ t) (h1 : t < w 0 0) (h4 : w 1 t = 4) (b0 : 0 ≤ b) (b1 : b < w 0 0) : giB w t b = (decide (b ∈ xL w t) || (decide (8 ≤ w 4 t) && decide (8 ≤ w 4 b) && giB w (w 4 t) (w 4 b))) := by
  have ht := hs.S.T (by omega) h1
  have hb' := hs.S.T b0 b1
  have hbt := hs.ty b0 b1
  have hB := hs.S.B.1
  unfold giB
  rw [if_neg (by omega), xL_8 h8, (hs.1 t (by omega) h1).2 b b0 b1, xI_law hs h8 h1]
  unfold rowS
  by_cases c1 : 8 ≤ w 4 t
  · by_cases c2 : 8 ≤ w 4 b
    · have c3 : w 1 b = 4 := by
        by_cases h : w 1 b = 4
        · exact h
        · have := hbt.2.2.1 h; omega
      have c4 := hb'.2.2.2.1
      have c5 := ht.2.2.2.1
      rw [if_neg (by omega), (hs.1 (w 4 t) (by omega) (by omega)).2 (w 4 b) (by omega) (by omega)]
      simp [c1, c2, c3, h4, show 8 ≤ b by omega]
    · simp only [c2, decide_false, Bool.and_false, Bool.false_and, Bool.or_false]
      by_cases hb : b ∈ ancL w t
      · have := anc_r hs h8 h1 hb
        simp [hb]; omega
      · simp [hb]
  · simp only [c1, decide_false, Bool.and_false, Bool.false_and, Bool.or_false]
    by_cases hb : b ∈ ancL w t
    · have := anc_r hs h8 h1 hb
      simp [hb]; omega
    · simp [hb]
theorem gi_prim {t b : Int} (h0 : 0 ≤ t) (h8 : t < 8) (b0 : 0 ≤ b) : giB w t b = (decide (b ∈ xL w t) || (decide (b < 8) && (decide (0 < t) && (decide (2 < b) && (if t = 1 then decide (3 < b) else decide (t < b)))))) := by
  unfold giB wdB
  rw [if_pos h8, xL_0 h8, Bool.eq_iff_iff]
  by_cases e : t = 1
  · subst e
    rw [if_pos rfl]
    by_cases b8 : b < 8 <;> by_cases b3 : 3 < b <;> by_cases b1 : b = 1 <;> simp_all <;> omega
  · rw [if_neg e]
    simp only [Bool.and_eq_true, Bool.or_eq_true, decide_eq_true_eq, List.mem_singleton]
    omega
end XIs

set_option maxRecDepth 100000 in
theorem k2_is {l : Launch} {θ : zTh} {σ : xA} {w : mW} {Lf : Int → List Int} {M N : zMap} (hX : xM θ σ w (Lf) M) (hs : xS w) (hw : mWF w) (hT : zTb θ) (t : Int) (b : Int)  (ht : 0 ≤ t ∧ t < w 0 0) (hb : 0 ≤ b ∧ b < w 0 0) : ZM θ l yX2_is cX2_is 2 (some .boolean) ⟨0, 0, 0, 0⟩ [.ref (σ 10 (t)), .ref (σ 10 (b))] (zP θ M N) (zFn (some (.int (iI (bI (decide (b ∈ Lf t)))))) (zP θ M N)) := by
  refine z_start (own := RX2) (nm := "is") pnX2 rfl rfl (Nat.le_of_ble_eq_true rfl) ?_
  intro κ hκ hκl C
  change Z κ (zP θ M N) 0 0 0 [(0, .ref (σ 10 (t))), (1, .ref (σ 10 (b)))] []
  have hS := hs.S
  have hB := hS.B
  obtain ⟨hB1, hB2, hB3, hB4, hB5, hB6⟩ := hS.B
  have hC := hS.C
  obtain ⟨h81, h82⟩ := hs.r8
  refine z_aload_n C 1 0 dX2_is_0 rfl rfl ?_
  obtain ⟨f1a, f1b, f1c, f1d, f1e, f1f, f1g, f1h⟩ := hS.T (show 0 ≤ t by omega) (by omega)
  obtain ⟨f1i, f1j, f1k, f1l⟩ := hs.ty (show 0 ≤ t by omega) (by omega)
  refine x_tget (v := .ref (σ 13 (t))) C hκ 4 6 hX hs (by omega) (by omega) (by decide) rfl rfl rfl q197 (Or.inl rfl) rfl dX2_is_1 rfl ?_
  refine z_aload_n C 5 1 dX2_is_4 rfl rfl ?_
  obtain ⟨f2a, f2b, f2c, f2d, f2e, f2f, f2g, f2h⟩ := hS.T (show 0 ≤ b by omega) (by omega)
  obtain ⟨f2i, f2j, f2k, f2l⟩ := hs.ty (show 0 ≤ b by omega) (by omega)
  refine x_tget (v := .int (iI (b))) C hκ 8 0 hX hs (by omega) (by omega) (by decide) rfl rfl rfl q175 (Or.inl rfl) rfl dX2_is_5 rfl ?_
  refine x_ahs C hκ 9 hX (by omega) (by omega) (by omega) (by omega) dX2_is_8 rfl ?_
  exact z_iret C dX2_is_9 (bI_nar _) (Nat.le_of_ble_eq_true rfl) (Nat.le_of_ble_eq_true rfl) ⟨congrArg (fun b => some (Value.int (iI (bI b)))) (rfl), rfl⟩
set_option maxRecDepth 100000 in
theorem k3_is {l : Launch} {θ : zTh} {σ : xA} {w : mW} {M N : zMap} (hX : xM θ σ w (xL w) M) (hs : xS w) (hw : mWF w) (hT : zTb θ) (t : Int) (b : Int)  (ht : 0 ≤ t ∧ t < w 0 0) (hb : 0 ≤ b ∧ b < w 0 0) (hc : t < 8 ∧ w 1 t = 0 ∧ xci w t = 3) : ZM θ l yX3_is cX3_is 3 (some .boolean) ⟨1, 0, 0, 21⟩ [.ref (σ 10 (t)), .ref (σ 10 (b))] (zP θ M N) (zFn (some (.int (iI (bI (giB w t b))))) (zP θ M N)) := by
  refine z_start (own := RX3) (nm := "is") pnX3 rfl rfl (Nat.le_of_ble_eq_true rfl) ?_
  intro κ hκ hκl C
  change Z κ (zP θ M N) 0 0 0 [(0, .ref (σ 10 (t))), (1, .ref (σ 10 (b)))] []
  have hS := hs.S
  have hB := hS.B
  obtain ⟨hB1, hB2, hB3, hB4, hB5, hB6⟩ := hS.B
  have hC := hS.C
  obtain ⟨h81, h82⟩ := hs.r8
  refine z_aload_n C 1 1 dX3_is_0 rfl rfl ?_
  obtain ⟨f1a, f1b, f1c, f1d, f1e, f1f, f1g, f1h⟩ := hS.T (show 0 ≤ b by omega) (by omega)
  obtain ⟨f1i, f1j, f1k, f1l⟩ := hs.ty (show 0 ≤ b by omega) (by omega)
  refine xv_number (rest := []) C hκ hκl hX hs hw hT (b)   ⟨(by omega), (by omega)⟩  4 dX3_is_1 q565 (Nat.le_of_ble_eq_true rfl) (Nat.le_of_ble_eq_true rfl) (Nat.le_of_ble_eq_true rfl) (Nat.le_of_ble_eq_true rfl) (Nat.le_of_ble_eq_true rfl) rfl ?_
  refine z_as (st' := [.int (iI ((b)))]) rfl rfl rfl ?_
  refine z_istore_n (lv' := [(0, .ref (σ 10 (t))), (1, .ref (σ 10 (b))), (2, .int (iI ((b))))]) C 5 [1, 2, 0] dX3_is_4 (by decide) rfl rfl ?_
  refine z_aload_n C 6 0 dX3_is_5 rfl rfl ?_
  refine z_aload_n C 7 1 dX3_is_6 rfl rfl ?_
  refine z_callSU (As := [.ref (σ 10 (b))]) (rest := []) C hκ hκl 10 (k2_is hX hs hw hT (t) (b) ⟨by omega, by omega⟩ ⟨by omega, by omega⟩) dX3_is_7 q566 q559 q215 q558 q92 q567 ⟨by decide, rfl⟩ (Nat.le_of_ble_eq_true rfl) (Nat.le_of_ble_eq_true rfl) (Nat.le_of_ble_eq_true rfl) (Nat.le_of_ble_eq_true rfl) (zrec_P (xM.ty3 hX (by omega) (by omega) hc.2.2)) rfl rfl (Nat.le_of_ble_eq_true rfl) rfl (fun v9 Q9 h9 => ?_)
  obtain ⟨rfl, rfl⟩ := h9
  refine z_as (st' := [.int (iI (bI (decide ((b) ∈ (xL w) (t)))))]) rfl rfl rfl ?_
  refine z_ifB_ne C 56 13 dX3_is_10 (by decide) rfl (fun c2 => ?_) (fun c2 => ?_)
  · skip
    have c2b : (((b) ∈ (xL w) (t))) := of_decide_eq_true c2
    refine z_iconst C 57 dX3_is_56 rfl ?_
    refine z_goto C 61 dX3_is_57 (by decide) ?_
    refine z_as (st' := [.int (iI (bI (true)))]) rfl rfl rfl ?_
    exact z_iret C dX3_is_61 (bI_nar _) (Nat.le_of_ble_eq_true rfl) (Nat.le_of_ble_eq_true rfl) ⟨congrArg (fun b => some (Value.int (iI (bI b)))) (by clear C hκ hκl hS hB hB1 hB2 hB3 hB4 hB5 hB6 hC hw hX hs hT h81 h82 f1a f1b f1c f1d f1e f1f f1g f1h f1i f1j f1k f1l; rw [gi_prim ht.1 hc.1 hb.1]; clear κ; first | (simp_all [rfB]; done) | (simp_all [rfB] <;> omega) | grind [rfB]), rfl⟩
  · skip
    have c2b : ¬ (((b) ∈ (xL w) (t))) := of_decide_eq_false c2
    refine z_aload_n C 14 1 dX3_is_13 rfl rfl ?_
    refine xv_isReference (rest := []) C hκ hκl hX hs hw hT (b)   ⟨(by omega), (by omega)⟩  17 dX3_is_14 q568 (Nat.le_of_ble_eq_true rfl) (Nat.le_of_ble_eq_true rfl) (Nat.le_of_ble_eq_true rfl) (Nat.le_of_ble_eq_true rfl) (Nat.le_of_ble_eq_true rfl) rfl ?_
    refine z_as (st' := [.int (iI (bI (rfB w (b))))]) rfl rfl rfl ?_
    refine z_ifB_ne C 60 20 dX3_is_17 (by decide) rfl (fun c3 => ?_) (fun c3 => ?_)
    · skip
      have c3b : (8 ≤ (b) ∧ (b) < w 0 0) := of_decide_eq_true c3
      refine z_iconst C 61 dX3_is_60 rfl ?_
      refine z_as (st' := [.int (iI (bI (false)))]) rfl rfl rfl ?_
      exact z_iret C dX3_is_61 (bI_nar _) (Nat.le_of_ble_eq_true rfl) (Nat.le_of_ble_eq_true rfl) ⟨congrArg (fun b => some (Value.int (iI (bI b)))) (by clear C hκ hκl hS hB hB1 hB2 hB3 hB4 hB5 hB6 hC hw hX hs hT h81 h82 f1a f1b f1c f1d f1e f1f f1g f1h f1i f1j f1k f1l; rw [gi_prim ht.1 hc.1 hb.1]; clear κ; first | (simp_all [rfB]; done) | (simp_all [rfB] <;> omega) | grind [rfB]), rfl⟩
    · skip
      have c3b : ¬ (8 ≤ (b) ∧ (b) < w 0 0) := of_decide_eq_false c3
      refine z_aload_n C 21 0 dX3_is_20 rfl rfl ?_
      refine z_callU (owner := RX2) (As := []) (rest := []) C hκ hκl 24 (k2_number hX hs hw hT (t) ⟨by omega, by omega⟩) dX3_is_21 q569 q570 q572 q397 q92 q403 rfl ⟨by decide, by decide, rfl⟩ (Nat.le_of_ble_eq_true rfl) (Nat.le_of_ble_eq_true rfl) (Nat.le_of_ble_eq_true rfl) (Nat.le_of_ble_eq_true rfl) (zrec_P (xM.ty3 hX (by omega) (by omega) hc.2.2)) rfl rfl (Nat.le_of_ble_eq_true rfl) rfl (fun v9 Q9 h9 => ?_)
      obtain ⟨rfl, rfl⟩ := h9
      refine z_as (st' := [.int (iI ((t)))]) rfl rfl rfl ?_
      refine z_if_le C 60 27 dX3_is_24 (by decide) ⟨by omega, by omega⟩ rfl (fun c4 => ?_) (fun c4 => ?_)
      · skip
        refine z_iconst C 61 dX3_is_60 rfl ?_
        refine z_as (st' := [.int (iI (bI (false)))]) rfl rfl rfl ?_
        exact z_iret C dX3_is_61 (bI_nar _) (Nat.le_of_ble_eq_true rfl) (Nat.le_of_ble_eq_true rfl) ⟨congrArg (fun b => some (Value.int (iI (bI b)))) (by clear C hκ hκl hS hB hB1 hB2 hB3 hB4 hB5 hB6 hC hw hX hs hT h81 h82 f1a f1b f1c f1d f1e f1f f1g f1h f1i f1j f1k f1l; rw [gi_prim ht.1 hc.1 hb.1]; clear κ; first | (simp_all [rfB]; done) | (simp_all [rfB] <;> omega) | grind [rfB]), rfl⟩
      · skip
        refine z_iload_n C 28 2 dX3_is_27 rfl rfl ?_
        refine z_iconst C 29 dX3_is_28 rfl ?_
        refine z_icmp_le C 60 32 dX3_is_29 (by decide) ⟨by omega, by omega⟩ ⟨by decide, by decide⟩ rfl (fun c5 => ?_) (fun c5 => ?_)
        · skip
          refine z_iconst C 61 dX3_is_60 rfl ?_
          refine z_as (st' := [.int (iI (bI (false)))]) rfl rfl rfl ?_
          exact z_iret C dX3_is_61 (bI_nar _) (Nat.le_of_ble_eq_true rfl) (Nat.le_of_ble_eq_true rfl) ⟨congrArg (fun b => some (Value.int (iI (bI b)))) (by clear C hκ hκl hS hB hB1 hB2 hB3 hB4 hB5 hB6 hC hw hX hs hT h81 h82 f1a f1b f1c f1d f1e f1f f1g f1h f1i f1j f1k f1l; rw [gi_prim ht.1 hc.1 hb.1]; clear κ; first | (simp_all [rfB]; done) | (simp_all [rfB] <;> omega) | grind [rfB]), rfl⟩
        · skip
          refine z_aload_n C 33 0 dX3_is_32 rfl rfl ?_
          refine z_callU (owner := RX2) (As := []) (rest := []) C hκ hκl 36 (k2_number hX hs hw hT (t) ⟨by omega, by omega⟩) dX3_is_33 q569 q570 q572 q397 q92 q403 rfl ⟨by decide, by decide, rfl⟩ (Nat.le_of_ble_eq_true rfl) (Nat.le_of_ble_eq_true rfl) (Nat.le_of_ble_eq_true rfl) (Nat.le_of_ble_eq_true rfl) (zrec_P (xM.ty3 hX (by omega) (by omega) hc.2.2)) rfl rfl (Nat.le_of_ble_eq_true rfl) rfl (fun v9 Q9 h9 => ?_)
          obtain ⟨rfl, rfl⟩ := h9
          refine z_as (st' := [.int (iI ((t)))]) rfl rfl rfl ?_
          refine z_iconst C 37 dX3_is_36 rfl ?_
          refine z_icmp_ne C 48 40 dX3_is_37 (by decide) ⟨by omega, by omega⟩ ⟨by decide, by decide⟩ rfl (fun c6 => ?_) (fun c6 => ?_)
          · skip
            refine z_iload_n C 49 2 dX3_is_48 rfl rfl ?_
            refine z_aload_n C 50 0 dX3_is_49 rfl rfl ?_
            refine z_callU (owner := RX2) (As := []) (rest := [.int (iI ((b)))]) C hκ hκl 53 (k2_number hX hs hw hT (t) ⟨by omega, by omega⟩) dX3_is_50 q569 q570 q572 q397 q92 q403 rfl ⟨by decide, by decide, rfl⟩ (Nat.le_of_ble_eq_true rfl) (Nat.le_of_ble_eq_true rfl) (Nat.le_of_ble_eq_true rfl) (Nat.le_of_ble_eq_true rfl) (zrec_P (xM.ty3 hX (by omega) (by omega) hc.2.2)) rfl rfl (Nat.le_of_ble_eq_true rfl) rfl (fun v9 Q9 h9 => ?_)
            obtain ⟨rfl, rfl⟩ := h9
            refine z_as (st' := [.int (iI ((t))), .int (iI ((b)))]) rfl rfl rfl ?_
            refine z_icmp_le C 60 56 dX3_is_53 (by decide) ⟨by omega, by omega⟩ ⟨by omega, by omega⟩ rfl (fun c7 => ?_) (fun c7 => ?_)
            · skip
              refine z_iconst C 61 dX3_is_60 rfl ?_
              refine z_as (st' := [.int (iI (bI (false)))]) rfl rfl rfl ?_
              exact z_iret C dX3_is_61 (bI_nar _) (Nat.le_of_ble_eq_true rfl) (Nat.le_of_ble_eq_true rfl) ⟨congrArg (fun b => some (Value.int (iI (bI b)))) (by clear C hκ hκl hS hB hB1 hB2 hB3 hB4 hB5 hB6 hC hw hX hs hT h81 h82 f1a f1b f1c f1d f1e f1f f1g f1h f1i f1j f1k f1l; rw [gi_prim ht.1 hc.1 hb.1]; clear κ; first | (simp_all [rfB]; done) | (simp_all [rfB] <;> omega) | grind [rfB]), rfl⟩
            · skip
              refine z_iconst C 57 dX3_is_56 rfl ?_
              refine z_goto C 61 dX3_is_57 (by decide) ?_
              refine z_as (st' := [.int (iI (bI (true)))]) rfl rfl rfl ?_
              exact z_iret C dX3_is_61 (bI_nar _) (Nat.le_of_ble_eq_true rfl) (Nat.le_of_ble_eq_true rfl) ⟨congrArg (fun b => some (Value.int (iI (bI b)))) (by clear C hκ hκl hS hB hB1 hB2 hB3 hB4 hB5 hB6 hC hw hX hs hT h81 h82 f1a f1b f1c f1d f1e f1f f1g f1h f1i f1j f1k f1l; rw [gi_prim ht.1 hc.1 hb.1]; clear κ; first | (simp_all [rfB]; done) | (simp_all [rfB] <;> omega) | grind [rfB]), rfl⟩
          · skip
            refine z_iload_n C 41 2 dX3_is_40 rfl rfl ?_
            refine z_iconst C 42 dX3_is_41 rfl ?_
            refine z_icmp_le C 60 45 dX3_is_42 (by decide) ⟨by omega, by omega⟩ ⟨by decide, by decide⟩ rfl (fun c8 => ?_) (fun c8 => ?_)
            · skip
              refine z_iconst C 61 dX3_is_60 rfl ?_
              refine z_as (st' := [.int (iI (bI (false)))]) rfl rfl rfl ?_
              exact z_iret C dX3_is_61 (bI_nar _) (Nat.le_of_ble_eq_true rfl) (Nat.le_of_ble_eq_true rfl) ⟨congrArg (fun b => some (Value.int (iI (bI b)))) (by clear C hκ hκl hS hB hB1 hB2 hB3 hB4 hB5 hB6 hC hw hX hs hT h81 h82 f1a f1b f1c f1d f1e f1f f1g f1h f1i f1j f1k f1l; rw [gi_prim ht.1 hc.1 hb.1]; clear κ; first | (simp_all [rfB]; done) | (simp_all [rfB] <;> omega) | grind [rfB]), rfl⟩
            · skip
              refine z_goto C 56 dX3_is_45 (by decide) ?_
              refine z_iconst C 57 dX3_is_56 rfl ?_
              refine z_goto C 61 dX3_is_57 (by decide) ?_
              refine z_as (st' := [.int (iI (bI (true)))]) rfl rfl rfl ?_
              exact z_iret C dX3_is_61 (bI_nar _) (Nat.le_of_ble_eq_true rfl) (Nat.le_of_ble_eq_true rfl) ⟨congrArg (fun b => some (Value.int (iI (bI b)))) (by clear C hκ hκl hS hB hB1 hB2 hB3 hB4 hB5 hB6 hC hw hX hs hT h81 h82 f1a f1b f1c f1d f1e f1f f1g f1h f1i f1j f1k f1l; rw [gi_prim ht.1 hc.1 hb.1]; clear κ; first | (simp_all [rfB]; done) | (simp_all [rfB] <;> omega) | grind [rfB]), rfl⟩
def xIsP (l : Launch) (θ : zTh) (σ : xA) (w : mW) (M N : zMap) (fu : Nat) : Prop := ∀ t b : Int, 0 ≤ t ∧ t < w 0 0 → 0 ≤ b ∧ b < w 0 0 → (8 ≤ t ∧ w 1 t = 4 ∧ xci w t = 8) → t < fu → ZM θ l yX8_is cX8_is 3 (some .boolean) ⟨4 * fu + 6, 0, 0, 40 * fu + 100⟩ [.ref (σ 10 (t)), .ref (σ 10 (b))] (zP θ M N) (zFn (some (.int (iI (bI (giB w t b))))) (zP θ M N))

section XV
variable {κ : zK} {own nm : String} {cc : ByteArray} {nL : Nat} {ret : Option FieldType} {rm : Room} {P : Option Value → (Heap → Prop) → Prop} {n k pc : Nat} {lv : List (Nat × Value)} {st rest : List Value}
variable {θ : zTh} {l : Launch} {σ : xA} {w : mW} {Lf : Int → List Int} {M N : zMap} {index : Nat}
theorem xv_isF (C : ZC κ own nm cc nL ret rm P) (hκ : κ.1 = θ) (hκl : κ.2.2.1 = l) (hX : xM θ σ w (xL w) M) (hs : xS w) (hw : mWF w) (hT : zTb θ) (fu : Nat) (ih : xIsP l θ σ w M N fu) (t b : Int) (ht : 0 ≤ t ∧ t < w 0 0) (hb : 0 ≤ b ∧ b < w 0 0) (hfu : t < fu) (q : Nat) (d : decode cc pc = .ok (.invokevirtual index, 3)) (hl : Cond.methodLink own index (⟨"ReflectMirror$Type", "is", "(LReflectMirror$Type;)Z"⟩ : MethodName) ∈ lw_all) (hf : 4 * fu + 7 ≤ rm.frames) (hlo : 40 * fu + 130 ≤ rm.locals) (hce : n ≤ rm.cells) (hsl : k ≤ rm.slots) (hsz : (rest.map fun v => v.category).sum ≤ 8) (hq : pc + 3 = q) (kk : Z κ (zP θ M N) n k q lv (.int (iI (bI (giB w t b))) :: rest)) : Z κ (zP θ M N) n k pc lv (.ref (σ 10 b) :: .ref (σ 10 t) :: rest) := by
  rcases hs.cls ht.1 ht.2 with ⟨e1, e2, e3⟩ | ⟨e1, e2, e3⟩ | ⟨e1, e2, e3⟩ | ⟨e1, e2, e3⟩
  · refine z_callO (owner := RX2) (As := [.ref (σ 10 b)]) (rest := rest) C hκ hκl q (k3_is hX hs hw hT t b ht hb (by omega)) d hl q559 q558 q567 q562 q563 q93 q564 ⟨by decide, by decide, rfl⟩ (by dsimp only; omega) (by dsimp only; omega) hce hsl (zrec_P (xM.ty3 hX ht.1 ht.2 (by omega))) rfl rfl hsz hq (fun v9 Q9 h9 => ?_)
    obtain ⟨rfl, rfl⟩ := h9
    exact kk
  · refine z_callU (owner := RX2) (As := [.ref (σ 10 b)]) (rest := rest) C hκ hκl q (k2_is hX hs hw hT t b ht hb) d hl q559 q560 q558 q92 q567 rfl ⟨by decide, by decide, rfl⟩ (by dsimp only; omega) (by dsimp only; omega) hce hsl (zrec_P (xM.ty4 hX ht.1 ht.2 (by omega))) rfl rfl hsz hq (fun v9 Q9 h9 => ?_)
    obtain ⟨rfl, rfl⟩ := h9
    rw [gi_ref hs (by omega) ht.2 (by omega) hb.1 hb.2] at kk
    exact kk
  · refine z_callU (owner := RX2) (As := [.ref (σ 10 b)]) (rest := rest) C hκ hκl q (k2_is hX hs hw hT t b ht hb) d hl q559 q561 q558 q92 q567 rfl ⟨by decide, by decide, rfl⟩ (by dsimp only; omega) (by dsimp only; omega) hce hsl (zrec_P (xM.ty5 hX ht.1 ht.2 (by omega))) rfl rfl hsz hq (fun v9 Q9 h9 => ?_)
    obtain ⟨rfl, rfl⟩ := h9
    rw [gi_ref hs (by omega) ht.2 (by omega) hb.1 hb.2] at kk
    exact kk
  · refine z_callO (owner := RX2) (As := [.ref (σ 10 b)]) (rest := rest) C hκ hκl q (ih t b ht hb (by omega) hfu) d hl q559 q558 q567 q573 q574 q98 q575 ⟨by decide, by decide, rfl⟩ (by dsimp only; omega) (by dsimp only; omega) hce hsl (zrec_P (xM.ty8 hX ht.1 ht.2 (by omega))) rfl rfl hsz hq (fun v9 Q9 h9 => ?_)
    obtain ⟨rfl, rfl⟩ := h9
    exact kk
end XV
set_option maxRecDepth 100000 in
theorem k8_is {l : Launch} {θ : zTh} {σ : xA} {w : mW} {M N : zMap} (hX : xM θ σ w (xL w) M) (hs : xS w) (hw : mWF w) (hT : zTb θ) (fu : Nat) (t : Int) (b : Int)  (ht : 0 ≤ t ∧ t < w 0 0) (hb : 0 ≤ b ∧ b < w 0 0) (hc : 8 ≤ t ∧ w 1 t = 4 ∧ xci w t = 8) (hfu : t < fu + 1) (ih : xIsP l θ σ w M N fu) : ZM θ l yX8_is cX8_is 3 (some .boolean) ⟨4 * (fu + 1) + 6, 0, 0, 40 * (fu + 1) + 100⟩ [.ref (σ 10 (t)), .ref (σ 10 (b))] (zP θ M N) (zFn (some (.int (iI (bI (giB w t b))))) (zP θ M N)) := by
  refine z_start (own := RX8) (nm := "is") pnX8 rfl rfl (Nat.le_of_ble_eq_true rfl) ?_
  intro κ hκ hκl C
  change Z κ (zP θ M N) 0 0 0 [(0, .ref (σ 10 (t))), (1, .ref (σ 10 (b)))] []
  have hS := hs.S
  have hB := hS.B
  obtain ⟨hB1, hB2, hB3, hB4, hB5, hB6⟩ := hS.B
  have hC := hS.C
  obtain ⟨h81, h82⟩ := hs.r8
  obtain ⟨f1a, f1b, f1c, f1d, f1e, f1f, f1g, f1h⟩ := hS.T (show 0 ≤ t by omega) (by omega)
  obtain ⟨f1i, f1j, f1k, f1l⟩ := hs.ty (show 0 ≤ t by omega) (by omega)
  obtain ⟨f2a, f2b, f2c, f2d, f2e, f2f, f2g, f2h⟩ := hS.T (show 0 ≤ b by omega) (by omega)
  obtain ⟨f2i, f2j, f2k, f2l⟩ := hs.ty (show 0 ≤ b by omega) (by omega)
  have hk1 : w 4 t < t := by omega
  have hk2 : w 4 b < b := by omega
  have hg := gi_row hs hc.1 ht.2 hc.2.1 hb.1 hb.2
  refine z_aload_n C 1 1 dX8_is_0 rfl rfl ?_
  refine xv_of (rest := []) C hκ hκl hX hs hw hT (b)   ⟨(by omega), (by omega)⟩  4 dX8_is_1 q576 (Nat.le_of_ble_eq_true rfl) (Nat.le_of_ble_eq_true rfl) (Nat.le_of_ble_eq_true rfl) (Nat.le_of_ble_eq_true rfl) (Nat.le_of_ble_eq_true rfl) rfl ?_
  refine z_as (st' := [va_rf (xo σ 10 (w 4 (b)))]) rfl rfl rfl ?_
  refine z_astore_nq (lv' := [(0, .ref (σ 10 (t))), (1, .ref (σ 10 (b))), (2, va_rf (xo σ 10 (w 4 (b))))]) C 5 [1, 2, 0] dX8_is_4 (by decide) rfl rfl ?_
  refine z_aload_n C 6 0 dX8_is_5 rfl rfl ?_
  refine z_aload_n C 7 1 dX8_is_6 rfl rfl ?_
  refine z_callSU (As := [.ref (σ 10 (b))]) (rest := []) C hκ hκl 10 (k2_is hX hs hw hT (t) (b) ⟨by omega, by omega⟩ ⟨by omega, by omega⟩) dX8_is_7 q577 q559 q321 q558 q92 q567 ⟨by decide, rfl⟩ (by dsimp only; omega) (by dsimp only; omega) (Nat.le_of_ble_eq_true rfl) (Nat.le_of_ble_eq_true rfl) (zrec_P (xM.ty8 hX (by omega) (by omega) hc.2.2)) rfl rfl (Nat.le_of_ble_eq_true rfl) rfl (fun v9 Q9 h9 => ?_)
  obtain ⟨rfl, rfl⟩ := h9
  refine z_as (st' := [.int (iI (bI (decide ((b) ∈ (xL w) (t)))))]) rfl rfl rfl ?_
  refine z_ifB_ne C 45 13 dX8_is_10 (by decide) rfl (fun c3 => ?_) (fun c3 => ?_)
  · skip
    have c3b : (((b) ∈ (xL w) (t))) := of_decide_eq_true c3
    refine z_iconst C 46 dX8_is_45 rfl ?_
    refine z_goto C 50 dX8_is_46 (by decide) ?_
    refine z_as (st' := [.int (iI (bI (true)))]) rfl rfl rfl ?_
    exact z_iret C dX8_is_50 (bI_nar _) (Nat.le_of_ble_eq_true rfl) (Nat.le_of_ble_eq_true rfl) ⟨congrArg (fun b => some (Value.int (iI (bI b)))) (by clear C hκ hκl hS hB hB1 hB2 hB3 hB4 hB5 hB6 hC hw hX hs hT h81 h82 f1a f1b f1c f1d f1e f1f f1g f1h f1i f1j f1k f1l f2a f2b f2c f2d f2e f2f f2g f2h f2i f2j f2k f2l; rw [hg]; clear ih; clear κ; first | (simp_all [rfB]; done) | (simp_all [rfB] <;> omega) | grind [rfB]), rfl⟩
  · skip
    have c3b : ¬ (((b) ∈ (xL w) (t))) := of_decide_eq_false c3
    refine z_aload_nq C 14 2 dX8_is_13 rfl rfl ?_
    rcases Int.lt_or_le (w 4 (b)) 0 with n4 | n4
    · skip
      rw [xo_n n4]
      refine z_as (st' := [.null]) (lv' := [(0, .ref (σ 10 (t))), (1, .ref (σ 10 (b))), (2, .null)]) rfl rfl rfl ?_
      refine z_ifnullN C 49 dX8_is_14 (by decide) ?_
      refine z_iconst C 50 dX8_is_49 rfl ?_
      refine z_as (st' := [.int (iI (bI (false)))]) rfl rfl rfl ?_
      exact z_iret C dX8_is_50 (bI_nar _) (Nat.le_of_ble_eq_true rfl) (Nat.le_of_ble_eq_true rfl) ⟨congrArg (fun b => some (Value.int (iI (bI b)))) (by clear C hκ hκl hS hB hB1 hB2 hB3 hB4 hB5 hB6 hC hw hX hs hT h81 h82 f1a f1b f1c f1d f1e f1f f1g f1h f1i f1j f1k f1l f2a f2b f2c f2d f2e f2f f2g f2h f2i f2j f2k f2l; rw [hg]; clear ih; clear κ; first | (simp_all [rfB]; done) | (simp_all [rfB] <;> omega) | grind [rfB]), rfl⟩
    · skip
      rw [xo_y n4]
      refine z_as (st' := [.ref (σ 10 (w 4 (b)))]) (lv' := [(0, .ref (σ 10 (t))), (1, .ref (σ 10 (b))), (2, .ref (σ 10 (w 4 (b))))]) rfl rfl rfl ?_
      refine z_ifnull C 17 dX8_is_14 rfl ?_
      refine z_aload_n C 18 0 dX8_is_17 rfl rfl ?_
      refine z_getf C hκ (v := va_rf (xo σ 10 (w 4 (t)))) 21 8 zk_X8 (xM.ty8 hX (by omega) (by omega) hc.2.2) (by decide) q429 (Or.inl rfl) rfl dX8_is_18 rfl ?_
      have y5 : 0 ≤ w 4 (t) := (by omega)
      rw [xo_y y5]
      refine z_as (st' := [.ref (σ 10 (w 4 (t)))]) (lv' := [(0, .ref (σ 10 (t))), (1, .ref (σ 10 (b))), (2, .ref (σ 10 (w 4 (b))))]) rfl rfl rfl ?_
      obtain ⟨f6a, f6b, f6c, f6d, f6e, f6f, f6g, f6h⟩ := hS.T (show 0 ≤ w 4 (t) by omega) (by omega)
      obtain ⟨f6i, f6j, f6k, f6l⟩ := hs.ty (show 0 ≤ w 4 (t) by omega) (by omega)
      refine xv_isReference (rest := []) C hκ hκl hX hs hw hT (w 4 (t))   ⟨(by omega), (by omega)⟩  24 dX8_is_21 q578 (Nat.le_of_ble_eq_true rfl) (Nat.le_of_ble_eq_true rfl) (Nat.le_of_ble_eq_true rfl) (Nat.le_of_ble_eq_true rfl) (Nat.le_of_ble_eq_true rfl) rfl ?_
      refine z_as (st' := [.int (iI (bI (rfB w (w 4 (t)))))]) rfl rfl rfl ?_
      refine z_ifB_eq C 49 27 dX8_is_24 (by decide) rfl (fun c7 => ?_) (fun c7 => ?_)
      · skip
        have c7b : ¬ (8 ≤ (w 4 (t)) ∧ (w 4 (t)) < w 0 0) := of_decide_eq_false c7
        refine z_iconst C 50 dX8_is_49 rfl ?_
        refine z_as (st' := [.int (iI (bI (false)))]) rfl rfl rfl ?_
        exact z_iret C dX8_is_50 (bI_nar _) (Nat.le_of_ble_eq_true rfl) (Nat.le_of_ble_eq_true rfl) ⟨congrArg (fun b => some (Value.int (iI (bI b)))) (by clear C hκ hκl hS hB hB1 hB2 hB3 hB4 hB5 hB6 hC hw hX hs hT h81 h82 f1a f1b f1c f1d f1e f1f f1g f1h f1i f1j f1k f1l f2a f2b f2c f2d f2e f2f f2g f2h f2i f2j f2k f2l f6a f6b f6c f6d f6e f6f f6g f6h f6i f6j f6k f6l; rw [hg]; clear ih; clear κ; first | (simp_all [rfB]; done) | (simp_all [rfB] <;> omega) | grind [rfB]), rfl⟩
      · skip
        have c7b : (8 ≤ (w 4 (t)) ∧ (w 4 (t)) < w 0 0) := of_decide_eq_true c7
        refine z_aload_n C 28 2 dX8_is_27 rfl rfl ?_
        obtain ⟨f8a, f8b, f8c, f8d, f8e, f8f, f8g, f8h⟩ := hS.T (show 0 ≤ w 4 (b) by omega) (by omega)
        obtain ⟨f8i, f8j, f8k, f8l⟩ := hs.ty (show 0 ≤ w 4 (b) by omega) (by omega)
        refine xv_isReference (rest := []) C hκ hκl hX hs hw hT (w 4 (b))   ⟨(by omega), (by omega)⟩  31 dX8_is_28 q578 (Nat.le_of_ble_eq_true rfl) (Nat.le_of_ble_eq_true rfl) (Nat.le_of_ble_eq_true rfl) (Nat.le_of_ble_eq_true rfl) (Nat.le_of_ble_eq_true rfl) rfl ?_
        refine z_as (st' := [.int (iI (bI (rfB w (w 4 (b)))))]) rfl rfl rfl ?_
        refine z_ifB_eq C 49 34 dX8_is_31 (by decide) rfl (fun c9 => ?_) (fun c9 => ?_)
        · skip
          have c9b : ¬ (8 ≤ (w 4 (b)) ∧ (w 4 (b)) < w 0 0) := of_decide_eq_false c9
          refine z_iconst C 50 dX8_is_49 rfl ?_
          refine z_as (st' := [.int (iI (bI (false)))]) rfl rfl rfl ?_
          exact z_iret C dX8_is_50 (bI_nar _) (Nat.le_of_ble_eq_true rfl) (Nat.le_of_ble_eq_true rfl) ⟨congrArg (fun b => some (Value.int (iI (bI b)))) (by clear C hκ hκl hS hB hB1 hB2 hB3 hB4 hB5 hB6 hC hw hX hs hT h81 h82 f1a f1b f1c f1d f1e f1f f1g f1h f1i f1j f1k f1l f2a f2b f2c f2d f2e f2f f2g f2h f2i f2j f2k f2l f6a f6b f6c f6d f6e f6f f6g f6h f6i f6j f6k f6l f8a f8b f8c f8d f8e f8f f8g f8h f8i f8j f8k f8l; rw [hg]; clear ih; clear κ; first | (simp_all [rfB]; done) | (simp_all [rfB] <;> omega) | grind [rfB]), rfl⟩
        · skip
          have c9b : (8 ≤ (w 4 (b)) ∧ (w 4 (b)) < w 0 0) := of_decide_eq_true c9
          refine z_aload_n C 35 0 dX8_is_34 rfl rfl ?_
          refine z_getf C hκ (v := va_rf (xo σ 10 (w 4 (t)))) 38 8 zk_X8 (xM.ty8 hX (by omega) (by omega) hc.2.2) (by decide) q429 (Or.inl rfl) rfl dX8_is_35 rfl ?_
          refine z_aload_n C 39 2 dX8_is_38 rfl rfl ?_
          have y10 : 0 ≤ w 4 (t) := (by omega)
          rw [xo_y y10]
          refine z_as (st' := [.ref (σ 10 (w 4 (b))), .ref (σ 10 (w 4 (t)))]) (lv' := [(0, .ref (σ 10 (t))), (1, .ref (σ 10 (b))), (2, .ref (σ 10 (w 4 (b))))]) rfl rfl rfl ?_
          refine xv_isF (rest := []) C hκ hκl hX hs hw hT fu ih (w 4 (t)) (w 4 (b)) ⟨by omega, by omega⟩ ⟨by omega, by omega⟩ (by omega) 42 dX8_is_39 q577 (by dsimp only; omega) (by dsimp only; omega) (Nat.le_of_ble_eq_true rfl) (Nat.le_of_ble_eq_true rfl) (Nat.le_of_ble_eq_true rfl) rfl ?_
          refine z_ifB_eq C 49 45 dX8_is_42 (by decide) rfl (fun c11 => ?_) (fun c11 => ?_)
          · skip
            refine z_iconst C 50 dX8_is_49 rfl ?_
            refine z_as (st' := [.int (iI (bI (false)))]) rfl rfl rfl ?_
            exact z_iret C dX8_is_50 (bI_nar _) (Nat.le_of_ble_eq_true rfl) (Nat.le_of_ble_eq_true rfl) ⟨congrArg (fun b => some (Value.int (iI (bI b)))) (by clear C hκ hκl hS hB hB1 hB2 hB3 hB4 hB5 hB6 hC hw hX hs hT h81 h82 f1a f1b f1c f1d f1e f1f f1g f1h f1i f1j f1k f1l f2a f2b f2c f2d f2e f2f f2g f2h f2i f2j f2k f2l f6a f6b f6c f6d f6e f6f f6g f6h f6i f6j f6k f6l f8a f8b f8c f8d f8e f8f f8g f8h f8i f8j f8k f8l; rw [hg]; clear ih; clear κ; first | (simp_all [rfB]; done) | (simp_all [rfB] <;> omega) | grind [rfB]), rfl⟩
          · skip
            refine z_iconst C 46 dX8_is_45 rfl ?_
            refine z_goto C 50 dX8_is_46 (by decide) ?_
            refine z_as (st' := [.int (iI (bI (true)))]) rfl rfl rfl ?_
            exact z_iret C dX8_is_50 (bI_nar _) (Nat.le_of_ble_eq_true rfl) (Nat.le_of_ble_eq_true rfl) ⟨congrArg (fun b => some (Value.int (iI (bI b)))) (by clear C hκ hκl hS hB hB1 hB2 hB3 hB4 hB5 hB6 hC hw hX hs hT h81 h82 f1a f1b f1c f1d f1e f1f f1g f1h f1i f1j f1k f1l f2a f2b f2c f2d f2e f2f f2g f2h f2i f2j f2k f2l f6a f6b f6c f6d f6e f6f f6g f6h f6i f6j f6k f6l f8a f8b f8c f8d f8e f8f f8g f8h f8i f8j f8k f8l; rw [hg]; clear ih; clear κ; first | (simp_all [rfB]; done) | (simp_all [rfB] <;> omega) | grind [rfB]), rfl⟩
theorem xIs_all {l : Launch} {θ : zTh} {σ : xA} {w : mW} {M N : zMap} (hX : xM θ σ w (xL w) M) (hs : xS w) (hw : mWF w) (hT : zTb θ) : ∀ fu : Nat, xIsP l θ σ w M N fu
  | 0 => fun t b ht _ _ h => by omega
  | fu + 1 => fun t b ht hb hc h => k8_is hX hs hw hT fu t b ht hb hc h (xIs_all hX hs hw hT fu)
section XV
variable {κ : zK} {own nm : String} {cc : ByteArray} {nL : Nat} {ret : Option FieldType} {rm : Room} {P : Option Value → (Heap → Prop) → Prop} {n k pc : Nat} {lv : List (Nat × Value)} {st rest : List Value}
variable {θ : zTh} {l : Launch} {σ : xA} {w : mW} {Lf : Int → List Int} {M N : zMap} {index : Nat}
theorem xv_is (C : ZC κ own nm cc nL ret rm P) (hκ : κ.1 = θ) (hκl : κ.2.2.1 = l) (hX : xM θ σ w (xL w) M) (hs : xS w) (hw : mWF w) (hT : zTb θ) (t b : Int) (ht : 0 ≤ t ∧ t < w 0 0) (hb : 0 ≤ b ∧ b < w 0 0) (q : Nat) (d : decode cc pc = .ok (.invokevirtual index, 3)) (hl : Cond.methodLink own index (⟨"ReflectMirror$Type", "is", "(LReflectMirror$Type;)Z"⟩ : MethodName) ∈ lw_all) (hf : 247 ≤ rm.frames) (hlo : 2530 ≤ rm.locals) (hce : n ≤ rm.cells) (hsl : k ≤ rm.slots) (hsz : (rest.map fun v => v.category).sum ≤ 8) (hq : pc + 3 = q) (kk : Z κ (zP θ M N) n k q lv (.int (iI (bI (giB w t b))) :: rest)) : Z κ (zP θ M N) n k pc lv (.ref (σ 10 b) :: .ref (σ 10 t) :: rest) :=
  xv_isF C hκ hκl hX hs hw hT 60 (xIs_all hX hs hw hT 60) t b ht hb (by have := hs.S.B.2.1; omega) q d hl hf hlo hce hsl hsz hq kk
end XV
