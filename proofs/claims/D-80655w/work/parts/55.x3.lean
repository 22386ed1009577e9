theorem lastN_un {p : Nat → Bool} : ∀ {N k : Nat}, k < N → p k = true → (∀ j, j < N → p j = true → j = k) → lastN p N = k
  | 0, k, h, _, _ => by omega
  | N + 1, k, h, hp, hu => by
    unfold lastN
    by_cases e : p N = true
    · rw [if_pos e, hu N (by omega) e]
    · rw [if_neg e]
      have : k ≠ N := fun h => e (h ▸ hp)
      exact lastN_un (by omega) hp (fun j hj hq => hu j (by omega) hq)
theorem lastN_none {p : Nat → Bool} : ∀ {N : Nat}, (∀ j, j < N → p j = false) → lastN p N = -1
  | 0, _ => rfl
  | N + 1, h => by
    unfold lastN
    rw [h N (by omega)]
    exact lastN_none (fun j hj => h j (by omega))
/-- no type declares two fields of a name, two methods alike -/
def xUq (w : mW) : Prop := (∀ m n : Int, 0 ≤ m → m < w 11 0 → 0 ≤ n → n < w 11 0 → mb w 16 m = true → mb w 16 n = true → w 13 m = w 13 n → w 14 m = w 14 n → m = n) ∧ (∀ m n : Int, 0 ≤ m → m < w 11 0 → 0 ≤ n → n < w 11 0 → mb w 16 m = false → mb w 16 n = false → w 13 m = w 13 n → likeB w m n = true → m = n)
theorem likeB_iff {w : mW} {m n : Int} : likeB w m n = true ↔ (w 14 m = w 14 n ∧ w 17 m = w 17 n ∧ w 18 m = w 18 n) ∧ ∀ k : Nat, k < (w 18 m).toNat → w 19 (3 * m + k) = w 19 (3 * n + k) := by
  unfold likeB
  rw [Bool.and_eq_true, allN_t, decide_eq_true_iff]
  simp only [decide_eq_true_iff]
theorem likeB_tr {w : mW} {a b m : Int} (h1 : likeB w a m = true) (h2 : likeB w b m = true) : likeB w a b = true := by
  rw [likeB_iff] at *
  obtain ⟨⟨a1, a2, a3⟩, a4⟩ := h1
  obtain ⟨⟨b1, b2, b3⟩, b4⟩ := h2
  exact ⟨⟨by omega, by omega, by omega⟩, fun k hk => by rw [a4 k hk, b4 k (by omega)]⟩
theorem ofI_y {w : mW} (hU : xUq w) {t n : Int} {k : Nat} (hk : (k : Int) < w 11 0) (h1 : mb w 16 k = true) (h2 : w 13 k = t) (h3 : w 14 k = n) : ofI w t n = k := by
  unfold ofI
  refine lastN_un (by omega) (by simp [h1, h2, h3]) (fun j hj hq => ?_)
  simp only [Bool.and_eq_true, decide_eq_true_eq] at hq
  have := hU.1 j k (by omega) (by omega) (by omega) hk (decide_eq_true hq.1) h1 (by rw [hq.2.1, h2]) (by rw [hq.2.2, h3])
  omega
theorem ofI_n {w : mW} {t n : Int} {k : Nat} (hk : w 11 0 ≤ k) (h : ∀ j : Nat, j < k → (mb w 16 j && (decide (w 13 j = t) && decide (w 14 j = n))) = false) : ofI w t n = -1 := lastN_none (fun j hj => h j (by omega))
theorem olI_y {w : mW} (hU : xUq w) {t m : Int} {k : Nat} (hk : (k : Int) < w 11 0) (h1 : mb w 16 k = false) (h2 : w 13 k = t) (h3 : likeB w k m = true) : olI w t m = k := by
  unfold olI
  refine lastN_un (by omega) (by simp [h1, h2, h3]) (fun j hj hq => ?_)
  simp only [Bool.and_eq_true, decide_eq_true_eq, Bool.not_eq_true'] at hq
  have := hU.2 j k (by omega) (by omega) (by omega) hk hq.1 h1 (by rw [hq.2.1, h2]) (likeB_tr hq.2.2 h3)
  omega
theorem olI_n {w : mW} {t m : Int} {k : Nat} (hk : w 11 0 ≤ k) (h : ∀ j : Nat, j < k → (!mb w 16 j && (decide (w 13 j = t) && likeB w j m)) = false) : olI w t m = -1 := lastN_none (fun j hj => h j (by omega))
/-- among references -/
theorem gi_88 {w : mW} {a b : Int} (ha : 8 ≤ a) (hb : 8 ≤ b) : giB w a b = isa w a b := by unfold giB; rw [if_neg (by omega), decide_eq_true hb, Bool.true_and]
theorem xab_at {w : mW} (hs : xS w) {t i : Int} (h8 : 8 ≤ t) (h1 : t < w 0 0) (i0 : 0 ≤ i) (i1 : i < w 10 t) : (xL w t)[i.toNat]? = some (w 9 (60 * t + i)) := by
  obtain ⟨⟨r1, r2⟩, -⟩ := hs.1 t (by omega) h1
  rw [xL_8 h8]
  have hl : i.toNat < (ancL w t).length := by omega
  have e := r2 i.toNat _ (List.getElem?_eq_getElem hl)
  rw [List.getElem?_eq_getElem hl, ← e]
  have : ((i.toNat : Nat) : Int) = i := by omega
  rw [this]
theorem anc_0 {w : mW} {t : Int} (h : t < 8) : ancL w t = [] := by
  unfold ancL ancF ancS; rw [if_pos h]
theorem xab_len {w : mW} (hs : xS w) {t : Int} (h0 : 0 ≤ t) (h1 : t < w 0 0) : w 10 t = if 8 ≤ t then ((xL w t).length : Int) else 0 := by
  obtain ⟨⟨r1, r2⟩, -⟩ := hs.1 t h0 h1
  split
  · rename_i h; rw [xL_8 h]; exact r1
  · rw [r1, anc_0 (by omega)]; rfl
def mbeC (w : mW) (t k : Int) : Bool := !(decide (zand k 16 ≠ 0) && (decide (w 1 t = 1) || decide (zand k 12 ≠ 0) || decide (zand k 3 = 2))) && (clB w t || ((decide (zand k 3 = 1) || decide (zand k 3 = 2)) && decide (zand k 8 = 0)))
theorem zor_b (a b : Bool) : iI (zor (bI a) (bI b)) = iI (bI (a || b)) := by cases a <;> cases b <;> decide
theorem gi_a8 {w : mW} (hs : xS w) {a b : Int} (ha : 8 ≤ a) (a1 : a < w 0 0) (b0 : 0 ≤ b) (b1 : b < w 0 0) : giB w a b = isa w a b := by
  by_cases hb : 8 ≤ b
  · exact gi_88 ha hb
  · unfold giB
    rw [if_neg (by omega), decide_eq_false (by omega), Bool.false_and, (hs.1 a (by omega) a1).2 b b0 b1, xI_law hs ha a1]
    have h1 : decide (b ∈ ancL w a) = false := decide_eq_false (fun h => by have := (anc_r hs ha a1 h).1; omega)
    have h2 : rowS w (isaL w) a b = false := by
      have := (hs.BT b b0 b1).2.2.2.2.2.2.2 (by omega)
      unfold rowS; rw [this]; simp
    rw [h1, h2]; rfl

set_option maxRecDepth 100000 in
theorem k9_isLike {l : Launch} {θ : zTh} {σ : xA} {w : mW} {Lf : Int → List Int} {M N : zMap} (hX : xM θ σ w (Lf) M) (hs : xS w) (hw : mWF w) (hT : zTb θ) (m : Int) (n : Int)  (hm : 0 ≤ m ∧ m < w 11 0) (hn : xMa θ σ w M n) : ZM θ l yX9_isLike cX9_isLike 4 (some .boolean) ⟨0, 0, 0, 0⟩ [.ref (σ 20 (m)), .ref (σ 20 (n))] (zP θ M N) (zFn (some (.int (iI (bI (likeB w m n))))) (zP θ M N)) := by
  refine z_start (own := RX9) (nm := "isLike") pnX9 rfl rfl (Nat.le_of_ble_eq_true rfl) ?_
  intro κ hκ hκl C
  change Z κ (zP θ M N) 0 0 0 [(0, .ref (σ 20 (m))), (1, .ref (σ 20 (n)))] []
  have hS := hs.S
  have hB := hS.B
  obtain ⟨hB1, hB2, hB3, hB4, hB5, hB6⟩ := hS.B
  have hC := hS.C
  obtain ⟨h81, h82⟩ := hs.r8
  obtain ⟨f1a, f1b, f1c, f1d⟩ := hS.M (show 0 ≤ m by omega) (by omega)
  obtain ⟨f2a, f2b, f2c, f2d⟩ := hn.2.2
  have L41_3 : ∀ (fu : Nat) (k : Nat) (b : Bool) (hk : (k : Int) ≤ w 18 m) (hb : b = (decide (w 14 m = w 14 n ∧ w 17 m = w 17 n ∧ w 18 m = w 18 n) && allN (fun j => decide (w 19 (3 * m + j) = w 19 (3 * n + j))) k)) (he : b = true → w 18 m = w 18 n) (hme : (w 18 m).toNat - k < fu), Z κ (zP θ M N) 0 0 41 [(0, .ref (σ 20 (m))), (1, .ref (σ 20 (n))), (2, .int (iI (bI (b)))), (3, .int (iI ((k : Int))))] [] := by
    intro fu
    induction fu with
    | zero => intro k b hk hb he hme; exact absurd hme (Nat.not_lt_zero _)
    | succ fu ih4 =>
      intro k b hk hb he hme
      refine z_iload_n C 42 3 dX9_isLike_41 rfl rfl ?_
      refine z_aload_n C 43 0 dX9_isLike_42 rfl rfl ?_
      refine z_getf C hκ (v := .int (iI (w 18 (m)))) 46 7 zk_X9 (hX.mem (by omega) (by omega)) (by decide) q678 (Or.inl rfl) rfl dX9_isLike_43 rfl ?_
      refine z_icmp_ge C 80 49 dX9_isLike_46 (by decide) ⟨by omega, by omega⟩ (hw.r _ _ rfl) rfl (fun c5 => ?_) (fun c5 => ?_)
      · skip
        refine z_iload_n C 81 2 dX9_isLike_80 rfl rfl ?_
        exact z_iret C dX9_isLike_81 (bI_nar _) (Nat.le_of_ble_eq_true rfl) (Nat.le_of_ble_eq_true rfl) ⟨congrArg (fun b => some (Value.int (iI (bI b)))) (likeB_at hk hb (by first | exact Or.inl (by assumption) | exact Or.inr (by assumption))), rfl⟩
      · skip
        refine z_iload_n C 50 2 dX9_isLike_49 rfl rfl ?_
        refine z_ifB_eq C 80 53 dX9_isLike_50 (by decide) rfl (fun c6 => ?_) (fun c6 => ?_)
        · skip
          refine z_iload_n C 81 2 dX9_isLike_80 rfl rfl ?_
          exact z_iret C dX9_isLike_81 (bI_nar _) (Nat.le_of_ble_eq_true rfl) (Nat.le_of_ble_eq_true rfl) ⟨congrArg (fun b => some (Value.int (iI (bI b)))) (likeB_at hk hb (by first | exact Or.inl (by assumption) | exact Or.inr (by assumption))), rfl⟩
        · skip
          have hq8 := he (by assumption)
          have hz1 := f1d k (by omega) (by omega)
          have hz2 := f2d k (by omega) (by omega)
          refine z_aload_n C 54 0 dX9_isLike_53 rfl rfl ?_
          refine z_getf C hκ (v := .ref (σ 21 (m))) 57 6 zk_X9 (hX.mem (by omega) (by omega)) (by decide) q673 (Or.inl rfl) rfl dX9_isLike_54 rfl ?_
          refine z_iload_n C 58 3 dX9_isLike_57 rfl rfl ?_
          refine x_apm C hκ 59 hX hs (by omega) (by omega) (by omega) (by omega) dX9_isLike_58 rfl ?_
          refine z_aload_n C 60 1 dX9_isLike_59 rfl rfl ?_
          refine z_getf C hκ (v := .ref (σ 21 (n))) 63 6 zk_X9 hn.1 (by decide) q673 (Or.inl rfl) rfl dX9_isLike_60 rfl ?_
          refine z_iload_n C 64 3 dX9_isLike_63 rfl rfl ?_
          refine x_apmA C hκ 65 hn (by omega) (by omega) dX9_isLike_64 rfl ?_
          have c7i := xo_T hX (a := w 19 (3 * (m) + ((k : Int)))) (b := w 19 (3 * (n) + ((k : Int)))) (by omega) (by omega) (by omega) (by omega)
          refine z_acmp_ne C (xo σ 10 (w 19 (3 * (m) + ((k : Int))))) (xo σ 10 (w 19 (3 * (n) + ((k : Int))))) 72 68 dX9_isLike_65 (by decide) rfl (by rw [xo_y (by omega)]; rfl) (by rw [xo_y (by omega)]; rfl) (fun c7 => ?_) (fun c7 => ?_)
          · skip
            have c7b : ¬ (w 19 (3 * (m) + ((k : Int))) = w 19 (3 * (n) + ((k : Int)))) := fun h9 => c7 (c7i.mpr h9); clear c7i
            refine z_iconst C 73 dX9_isLike_72 rfl ?_
            refine z_istore_n (lv' := [(0, .ref (σ 20 (m))), (1, .ref (σ 20 (n))), (2, .int (iI (0))), (3, .int (iI ((k : Int))))]) C 74 [1, 2, 0, 3] dX9_isLike_73 (by decide) rfl rfl ?_
            refine z_iinc (lv' := [(0, .ref (σ 20 (m))), (1, .ref (σ 20 (n))), (2, .int (iI (0))), (3, .int (iI (((k : Int)) + 1)))]) C 77 3 [1, 2, 3, 0] dX9_isLike_74 rfl (by decide) rfl rfl ?_
            refine z_goto C 41 dX9_isLike_77 (by decide) ?_
            refine z_as (lv' := [(0, .ref (σ 20 (m))), (1, .ref (σ 20 (n))), (2, .int (iI (bI ((false))))), (3, .int (iI (((k + 1) : Int))))]) rfl rfl rfl ?_
            exact ih4 (k + 1) (false) (by omega) (by clear C hκ hκl hS hB hB1 hB2 hB3 hB4 hB5 hB6 hC hw hX hs hT h81 h82 f1a f1b f1c f1d f2a f2b f2c f2d ih4 hme; first | (simp_all [allN]; done) | (simp_all [allN] <;> omega) | (grind [allN]) | (simp [allN] at * <;> omega)) (fun _ => by omega) (by omega)
          · skip
            have c7b : w 19 (3 * (m) + ((k : Int))) = w 19 (3 * (n) + ((k : Int))) := c7i.mp c7; clear c7i
            refine z_iconst C 69 dX9_isLike_68 rfl ?_
            refine z_goto C 73 dX9_isLike_69 (by decide) ?_
            refine z_istore_n (lv' := [(0, .ref (σ 20 (m))), (1, .ref (σ 20 (n))), (2, .int (iI (1))), (3, .int (iI ((k : Int))))]) C 74 [1, 2, 0, 3] dX9_isLike_73 (by decide) rfl rfl ?_
            refine z_iinc (lv' := [(0, .ref (σ 20 (m))), (1, .ref (σ 20 (n))), (2, .int (iI (1))), (3, .int (iI (((k : Int)) + 1)))]) C 77 3 [1, 2, 3, 0] dX9_isLike_74 rfl (by decide) rfl rfl ?_
            refine z_goto C 41 dX9_isLike_77 (by decide) ?_
            refine z_as (lv' := [(0, .ref (σ 20 (m))), (1, .ref (σ 20 (n))), (2, .int (iI (bI ((true))))), (3, .int (iI (((k + 1) : Int))))]) rfl rfl rfl ?_
            exact ih4 (k + 1) (true) (by omega) (by clear C hκ hκl hS hB hB1 hB2 hB3 hB4 hB5 hB6 hC hw hX hs hT h81 h82 f1a f1b f1c f1d f2a f2b f2c f2d ih4 hme; first | (simp_all [allN]; done) | (simp_all [allN] <;> omega) | (grind [allN]) | (simp [allN] at * <;> omega)) (fun _ => by omega) (by omega)
  refine z_aload_n C 1 0 dX9_isLike_0 rfl rfl ?_
  refine z_getf C hκ (v := .int (iI (w 14 (m)))) 4 2 zk_X9 (hX.mem (by omega) (by omega)) (by decide) q659 (Or.inl rfl) rfl dX9_isLike_1 rfl ?_
  refine z_aload_n C 5 1 dX9_isLike_4 rfl rfl ?_
  refine z_getf C hκ (v := .int (iI (w 14 (n)))) 8 2 zk_X9 hn.1 (by decide) q659 (Or.inl rfl) rfl dX9_isLike_5 rfl ?_
  refine z_icmp_ne C 37 11 dX9_isLike_8 (by decide) (hw.r _ _ rfl) (hw.r _ _ rfl) rfl (fun c8 => ?_) (fun c8 => ?_)
  · skip
    refine z_iconst C 38 dX9_isLike_37 rfl ?_
    refine z_istore_n (lv' := [(0, .ref (σ 20 (m))), (1, .ref (σ 20 (n))), (2, .int (iI (0)))]) C 39 [1, 2, 0] dX9_isLike_38 (by decide) rfl rfl ?_
    refine z_iconst C 40 dX9_isLike_39 rfl ?_
    refine z_istore_n (lv' := [(0, .ref (σ 20 (m))), (1, .ref (σ 20 (n))), (2, .int (iI (0))), (3, .int (iI (0)))]) C 41 [1, 2, 3, 0] dX9_isLike_40 (by decide) rfl rfl ?_
    refine z_as (lv' := [(0, .ref (σ 20 (m))), (1, .ref (σ 20 (n))), (2, .int (iI (bI ((false))))), (3, .int (iI (((0) : Int))))]) rfl rfl rfl ?_
    exact L41_3 _ (0) (false) (by omega) (by clear C hκ hκl hS hB hB1 hB2 hB3 hB4 hB5 hB6 hC hw hX hs hT h81 h82 f1a f1b f1c f1d f2a f2b f2c f2d L41_3; first | (simp_all [allN]; done) | (simp_all [allN] <;> omega) | (grind [allN]) | (simp [allN] at * <;> omega)) (by clear C hκ hκl hS hB hB1 hB2 hB3 hB4 hB5 hB6 hC hw hX hs hT h81 h82 f1a f1b f1c f1d f2a f2b f2c f2d L41_3; intro h9; first | omega | cases h9) (Nat.lt_succ_self _)
  · skip
    refine z_aload_n C 12 0 dX9_isLike_11 rfl rfl ?_
    refine z_getf C hκ (v := .int (iI (w 18 (m)))) 15 7 zk_X9 (hX.mem (by omega) (by omega)) (by decide) q678 (Or.inl rfl) rfl dX9_isLike_12 rfl ?_
    refine z_aload_n C 16 1 dX9_isLike_15 rfl rfl ?_
    refine z_getf C hκ (v := .int (iI (w 18 (n)))) 19 7 zk_X9 hn.1 (by decide) q678 (Or.inl rfl) rfl dX9_isLike_16 rfl ?_
    refine z_icmp_ne C 37 22 dX9_isLike_19 (by decide) (hw.r _ _ rfl) (hw.r _ _ rfl) rfl (fun c9 => ?_) (fun c9 => ?_)
    · skip
      refine z_iconst C 38 dX9_isLike_37 rfl ?_
      refine z_istore_n (lv' := [(0, .ref (σ 20 (m))), (1, .ref (σ 20 (n))), (2, .int (iI (0)))]) C 39 [1, 2, 0] dX9_isLike_38 (by decide) rfl rfl ?_
      refine z_iconst C 40 dX9_isLike_39 rfl ?_
      refine z_istore_n (lv' := [(0, .ref (σ 20 (m))), (1, .ref (σ 20 (n))), (2, .int (iI (0))), (3, .int (iI (0)))]) C 41 [1, 2, 3, 0] dX9_isLike_40 (by decide) rfl rfl ?_
      refine z_as (lv' := [(0, .ref (σ 20 (m))), (1, .ref (σ 20 (n))), (2, .int (iI (bI ((false))))), (3, .int (iI (((0) : Int))))]) rfl rfl rfl ?_
      exact L41_3 _ (0) (false) (by omega) (by clear C hκ hκl hS hB hB1 hB2 hB3 hB4 hB5 hB6 hC hw hX hs hT h81 h82 f1a f1b f1c f1d f2a f2b f2c f2d L41_3; first | (simp_all [allN]; done) | (simp_all [allN] <;> omega) | (grind [allN]) | (simp [allN] at * <;> omega)) (by clear C hκ hκl hS hB hB1 hB2 hB3 hB4 hB5 hB6 hC hw hX hs hT h81 h82 f1a f1b f1c f1d f2a f2b f2c f2d L41_3; intro h9; first | omega | cases h9) (Nat.lt_succ_self _)
    · skip
      refine z_aload_n C 23 0 dX9_isLike_22 rfl rfl ?_
      refine z_getf C hκ (v := va_rf (xo σ 10 (w 17 (m)))) 26 5 zk_X9 (hX.mem (by omega) (by omega)) (by decide) q667 (Or.inl rfl) rfl dX9_isLike_23 rfl ?_
      refine z_aload_n C 27 1 dX9_isLike_26 rfl rfl ?_
      refine z_getf C hκ (v := va_rf (xo σ 10 (w 17 (n)))) 30 5 zk_X9 hn.1 (by decide) q667 (Or.inl rfl) rfl dX9_isLike_27 rfl ?_
      have c10i := xo_T hX (a := w 17 (m)) (b := w 17 (n)) (by omega) (by omega) (by omega) (by omega)
      refine z_acmp_ne C (xo σ 10 (w 17 (m))) (xo σ 10 (w 17 (n))) 37 33 dX9_isLike_30 (by decide) rfl rfl rfl (fun c10 => ?_) (fun c10 => ?_)
      · skip
        have c10b : ¬ (w 17 (m) = w 17 (n)) := fun h9 => c10 (c10i.mpr h9); clear c10i
        refine z_iconst C 38 dX9_isLike_37 rfl ?_
        refine z_istore_n (lv' := [(0, .ref (σ 20 (m))), (1, .ref (σ 20 (n))), (2, .int (iI (0)))]) C 39 [1, 2, 0] dX9_isLike_38 (by decide) rfl rfl ?_
        refine z_iconst C 40 dX9_isLike_39 rfl ?_
        refine z_istore_n (lv' := [(0, .ref (σ 20 (m))), (1, .ref (σ 20 (n))), (2, .int (iI (0))), (3, .int (iI (0)))]) C 41 [1, 2, 3, 0] dX9_isLike_40 (by decide) rfl rfl ?_
        refine z_as (lv' := [(0, .ref (σ 20 (m))), (1, .ref (σ 20 (n))), (2, .int (iI (bI ((false))))), (3, .int (iI (((0) : Int))))]) rfl rfl rfl ?_
        exact L41_3 _ (0) (false) (by omega) (by clear C hκ hκl hS hB hB1 hB2 hB3 hB4 hB5 hB6 hC hw hX hs hT h81 h82 f1a f1b f1c f1d f2a f2b f2c f2d L41_3; first | (simp_all [allN]; done) | (simp_all [allN] <;> omega) | (grind [allN]) | (simp [allN] at * <;> omega)) (by clear C hκ hκl hS hB hB1 hB2 hB3 hB4 hB5 hB6 hC hw hX hs hT h81 h82 f1a f1b f1c f1d f2a f2b f2c f2d L41_3; intro h9; first | omega | cases h9) (Nat.lt_succ_self _)
      · skip
        have c10b : w 17 (m) = w 17 (n) := c10i.mp c10; clear c10i
        refine z_iconst C 34 dX9_isLike_33 rfl ?_
        refine z_goto C 38 dX9_isLike_34 (by decide) ?_
        refine z_istore_n (lv' := [(0, .ref (σ 20 (m))), (1, .ref (σ 20 (n))), (2, .int (iI (1)))]) C 39 [1, 2, 0] dX9_isLike_38 (by decide) rfl rfl ?_
        refine z_iconst C 40 dX9_isLike_39 rfl ?_
        refine z_istore_n (lv' := [(0, .ref (σ 20 (m))), (1, .ref (σ 20 (n))), (2, .int (iI (1))), (3, .int (iI (0)))]) C 41 [1, 2, 3, 0] dX9_isLike_40 (by decide) rfl rfl ?_
        refine z_as (lv' := [(0, .ref (σ 20 (m))), (1, .ref (σ 20 (n))), (2, .int (iI (bI ((true))))), (3, .int (iI (((0) : Int))))]) rfl rfl rfl ?_
        exact L41_3 _ (0) (true) (by omega) (by clear C hκ hκl hS hB hB1 hB2 hB3 hB4 hB5 hB6 hC hw hX hs hT h81 h82 f1a f1b f1c f1d f2a f2b f2c f2d L41_3; first | (simp_all [allN]; done) | (simp_all [allN] <;> omega) | (grind [allN]) | (simp [allN] at * <;> omega)) (by clear C hκ hκl hS hB hB1 hB2 hB3 hB4 hB5 hB6 hC hw hX hs hT h81 h82 f1a f1b f1c f1d f2a f2b f2c f2d L41_3; intro h9; first | omega | cases h9) (Nat.lt_succ_self _)
section XV
variable {κ : zK} {own nm : String} {cc : ByteArray} {nL : Nat} {ret : Option FieldType} {rm : Room} {P : Option Value → (Heap → Prop) → Prop} {n k pc : Nat} {lv : List (Nat × Value)} {st rest : List Value}
variable {θ : zTh} {l : Launch} {σ : xA} {w : mW} {Lf : Int → List Int} {M N : zMap} {index : Nat}
theorem xv_tnum (C : ZC κ own nm cc nL ret rm P) (hκ : κ.1 = θ) (hκl : κ.2.2.1 = l) (hX : xM θ σ w Lf M) (hs : xS w) (hw : mWF w) (hT : zTb θ) (x : Int) (hx : 0 ≤ x ∧ x < w 27 0) (q : Nat) (d : decode cc pc = .ok (.invokevirtual index, 3)) (hl : Cond.methodLink own index (⟨"ReflectMirror$Thing", "number", "()I"⟩ : MethodName) ∈ lw_all) (hf : 1 ≤ rm.frames) (hlo : 20 ≤ rm.locals) (hce : n ≤ rm.cells) (hsl : k ≤ rm.slots) (hsz : (rest.map fun v => v.category).sum ≤ 8) (hq : pc + 3 = q) (kk : Z κ (zP θ M N) n k q lv (.int (iI x) :: rest)) : Z κ (zP θ M N) n k pc lv (.ref (σ 30 x) :: rest) := by
  by_cases h : w 29 x = -1
  · refine z_callU (owner := RX23) (As := []) (rest := rest) C hκ hκl q (k23_number hX hs hw hT x hx) d hl q2581 q2583 q494 q118 q496 rfl ⟨by decide, by decide, rfl⟩ (Nat.le_trans (Nat.le_of_ble_eq_true rfl) hf) (Nat.le_trans (Nat.le_of_ble_eq_true rfl) hlo) hce hsl (zrec_P (hX.one hx.1 hx.2 h)) rfl rfl hsz hq (fun v9 Q9 h9 => ?_)
    obtain ⟨rfl, rfl⟩ := h9
    exact kk
  · refine z_callU (owner := RX23) (As := []) (rest := rest) C hκ hκl q (k23_number hX hs hw hT x hx) d hl q2581 q2582 q494 q118 q496 rfl ⟨by decide, by decide, rfl⟩ (Nat.le_trans (Nat.le_of_ble_eq_true rfl) hf) (Nat.le_trans (Nat.le_of_ble_eq_true rfl) hlo) hce hsl (zrec_P (hX.many hx.1 hx.2 h)) rfl rfl hsz hq (fun v9 Q9 h9 => ?_)
    obtain ⟨rfl, rfl⟩ := h9
    exact kk
end XV
set_option maxRecDepth 100000 in
theorem k0_ownField {l : Launch} {θ : zTh} {σ : xA} {w : mW} {Lf : Int → List Int} {M N : zMap} (hX : xM θ σ w (Lf) M) (hs : xS w) (hw : mWF w) (hT : zTb θ) (t : Int) (n : Int) (r_n : inR n) (ht : 0 ≤ t ∧ t < w 0 0) (hUq : xUq w) : ZM θ l yX0_ownField cX0_ownField 4 (some (.object "ReflectMirror$Member")) ⟨0, 0, 0, 0⟩ [.ref (σ 0 (0)), .ref (σ 10 (t)), .int (iI (n))] (zP θ M N) (zFn (some (va_rf (xo σ 20 (ofI w t n)))) (zP θ M N)) := by
  refine z_start (own := RX0) (nm := "ownField") pnX0 rfl rfl (Nat.le_of_ble_eq_true rfl) ?_
  intro κ hκ hκl C
  change Z κ (zP θ M N) 0 0 0 [(0, .ref (σ 0 (0))), (1, .ref (σ 10 (t))), (2, .int (iI (n)))] []
  have hS := hs.S
  have hB := hS.B
  obtain ⟨hB1, hB2, hB3, hB4, hB5, hB6⟩ := hS.B
  have hC := hS.C
  obtain ⟨h81, h82⟩ := hs.r8
  refine z_iconst C 1 dX0_ownField_0 rfl ?_
  refine z_istore_n (lv' := [(0, .ref (σ 0 (0))), (1, .ref (σ 10 (t))), (2, .int (iI (n))), (3, .int (iI (0)))]) C 2 [1, 2, 3, 0] dX0_ownField_1 (by decide) rfl rfl ?_
  have L2_1 : ∀ (fu : Nat) (k : Nat) (hk : (k : Int) ≤ w 11 0) (hn : ∀ j : Nat, j < k → (mb w 16 j && (decide (w 13 j = t) && decide (w 14 j = n))) = false) (hme : (w 11 0).toNat - k < fu), Z κ (zP θ M N) 0 0 2 [(0, .ref (σ 0 (0))), (1, .ref (σ 10 (t))), (2, .int (iI (n))), (3, .int (iI ((k : Int))))] [] := by
    intro fu
    induction fu with
    | zero => intro k hk hn hme; exact absurd hme (Nat.not_lt_zero _)
    | succ fu ih2 =>
      intro k hk hn hme
      have hn0 := hn; clear hn
      refine z_iload_n C 3 3 dX0_ownField_2 rfl rfl ?_
      refine z_aload_n C 4 0 dX0_ownField_3 rfl rfl ?_
      refine z_getf C hκ (v := .int (iI (w 11 0))) 7 3 zk_X0 hX.o (by decide) q330 (Or.inl rfl) rfl dX0_ownField_4 rfl ?_
      refine z_icmp_ge C 61 10 dX0_ownField_7 (by decide) ⟨by omega, by omega⟩ ⟨by omega, by omega⟩ rfl (fun c3 => ?_) (fun c3 => ?_)
      · skip
        refine z_null C 62 dX0_ownField_61 rfl ?_
        exact z_aret C dX0_ownField_62 (Or.inl ⟨_, rfl⟩) (Or.inl rfl) (Nat.le_of_ble_eq_true rfl) (Nat.le_of_ble_eq_true rfl) ⟨congrArg some (by rw [ofI_n (k := k) (by omega) hn0, xo_n (by decide)]; rfl), rfl⟩
      · skip
        refine z_aload_n C 11 0 dX0_ownField_10 rfl rfl ?_
        refine z_getf C hκ (v := .ref (σ 2 (0))) 14 2 zk_X0 hX.o (by decide) q329 (Or.inl rfl) rfl dX0_ownField_11 rfl ?_
        refine z_iload_n C 15 3 dX0_ownField_14 rfl rfl ?_
        refine x_aM C hκ 16 hX hs (by omega) (by omega) dX0_ownField_15 rfl ?_
        obtain ⟨f4a, f4b, f4c, f4d⟩ := hS.M (show 0 ≤ (k : Int) by omega) (by omega)
        refine z_getf C hκ (v := .ref (σ 10 (w 13 ((k : Int))))) 19 1 zk_X9 (hX.mem (by omega) (by omega)) (by decide) q657 (Or.inl rfl) rfl dX0_ownField_16 rfl ?_
        refine z_aload_n C 20 1 dX0_ownField_19 rfl rfl ?_
        have c5i := xo_T hX (a := w 13 ((k : Int))) (b := t) (by omega) (by omega) (by omega) (by omega)
        refine z_acmp_ne C (xo σ 10 (w 13 ((k : Int)))) (xo σ 10 (t)) 55 23 dX0_ownField_20 (by decide) rfl (by rw [xo_y (by omega)]; rfl) (by rw [xo_y (by omega)]; rfl) (fun c5 => ?_) (fun c5 => ?_)
        · skip
          have c5b : ¬ (w 13 ((k : Int)) = t) := fun h9 => c5 (c5i.mpr h9); clear c5i
          refine z_iinc (lv' := [(0, .ref (σ 0 (0))), (1, .ref (σ 10 (t))), (2, .int (iI (n))), (3, .int (iI (((k : Int)) + 1)))]) C 58 3 [1, 2, 3, 0] dX0_ownField_55 rfl (by decide) rfl rfl ?_
          refine z_goto C 2 dX0_ownField_58 (by decide) ?_
          refine z_as (lv' := [(0, .ref (σ 0 (0))), (1, .ref (σ 10 (t))), (2, .int (iI (n))), (3, .int (iI (((k + 1) : Int))))]) rfl rfl rfl ?_
          exact ih2 (k + 1) (by omega) (fun j hj => (Nat.lt_or_eq_of_le (Nat.le_of_lt_succ hj)).elim (hn0 j) (fun h => by rw [h]; clear hn0; clear C hκ hκl hS hB hB1 hB2 hB3 hB4 hB5 hB6 hC hw hX hs hT h81 h82 ih2 hme f4a f4b f4c f4d; first | (simp_all; done) | grind)) (by omega)
        · skip
          have c5b : w 13 ((k : Int)) = t := c5i.mp c5; clear c5i
          refine z_aload_n C 24 0 dX0_ownField_23 rfl rfl ?_
          refine z_getf C hκ (v := .ref (σ 2 (0))) 27 2 zk_X0 hX.o (by decide) q329 (Or.inl rfl) rfl dX0_ownField_24 rfl ?_
          refine z_iload_n C 28 3 dX0_ownField_27 rfl rfl ?_
          refine x_aM C hκ 29 hX hs (by omega) (by omega) dX0_ownField_28 rfl ?_
          refine z_getf C hκ (v := .int (iI (bI (mb w 16 ((k : Int)))))) 32 4 zk_X9 (hX.mem (by omega) (by omega)) (by decide) q664 (Or.inl rfl) rfl dX0_ownField_29 rfl ?_
          refine z_ifB_eq C 55 35 dX0_ownField_32 (by decide) rfl (fun c6 => ?_) (fun c6 => ?_)
          · skip
            have c6b : ¬ (w 16 ((k : Int)) = 1) := of_decide_eq_false c6
            refine z_iinc (lv' := [(0, .ref (σ 0 (0))), (1, .ref (σ 10 (t))), (2, .int (iI (n))), (3, .int (iI (((k : Int)) + 1)))]) C 58 3 [1, 2, 3, 0] dX0_ownField_55 rfl (by decide) rfl rfl ?_
            refine z_goto C 2 dX0_ownField_58 (by decide) ?_
            refine z_as (lv' := [(0, .ref (σ 0 (0))), (1, .ref (σ 10 (t))), (2, .int (iI (n))), (3, .int (iI (((k + 1) : Int))))]) rfl rfl rfl ?_
            exact ih2 (k + 1) (by omega) (fun j hj => (Nat.lt_or_eq_of_le (Nat.le_of_lt_succ hj)).elim (hn0 j) (fun h => by rw [h]; clear hn0; clear C hκ hκl hS hB hB1 hB2 hB3 hB4 hB5 hB6 hC hw hX hs hT h81 h82 ih2 hme f4a f4b f4c f4d; first | (simp_all; done) | grind)) (by omega)
          · skip
            have c6b : (w 16 ((k : Int)) = 1) := of_decide_eq_true c6
            refine z_aload_n C 36 0 dX0_ownField_35 rfl rfl ?_
            refine z_getf C hκ (v := .ref (σ 2 (0))) 39 2 zk_X0 hX.o (by decide) q329 (Or.inl rfl) rfl dX0_ownField_36 rfl ?_
            refine z_iload_n C 40 3 dX0_ownField_39 rfl rfl ?_
            refine x_aM C hκ 41 hX hs (by omega) (by omega) dX0_ownField_40 rfl ?_
            refine z_getf C hκ (v := .int (iI (w 14 ((k : Int))))) 44 2 zk_X9 (hX.mem (by omega) (by omega)) (by decide) q660 (Or.inl rfl) rfl dX0_ownField_41 rfl ?_
            refine z_iload_n C 45 2 dX0_ownField_44 rfl rfl ?_
            refine z_icmp_ne C 55 48 dX0_ownField_45 (by decide) (hw.r _ _ rfl) r_n rfl (fun c7 => ?_) (fun c7 => ?_)
            · skip
              refine z_iinc (lv' := [(0, .ref (σ 0 (0))), (1, .ref (σ 10 (t))), (2, .int (iI (n))), (3, .int (iI (((k : Int)) + 1)))]) C 58 3 [1, 2, 3, 0] dX0_ownField_55 rfl (by decide) rfl rfl ?_
              refine z_goto C 2 dX0_ownField_58 (by decide) ?_
              refine z_as (lv' := [(0, .ref (σ 0 (0))), (1, .ref (σ 10 (t))), (2, .int (iI (n))), (3, .int (iI (((k + 1) : Int))))]) rfl rfl rfl ?_
              exact ih2 (k + 1) (by omega) (fun j hj => (Nat.lt_or_eq_of_le (Nat.le_of_lt_succ hj)).elim (hn0 j) (fun h => by rw [h]; clear hn0; clear C hκ hκl hS hB hB1 hB2 hB3 hB4 hB5 hB6 hC hw hX hs hT h81 h82 ih2 hme f4a f4b f4c f4d; first | (simp_all; done) | grind)) (by omega)
            · skip
              refine z_aload_n C 49 0 dX0_ownField_48 rfl rfl ?_
              refine z_getf C hκ (v := .ref (σ 2 (0))) 52 2 zk_X0 hX.o (by decide) q329 (Or.inl rfl) rfl dX0_ownField_49 rfl ?_
              refine z_iload_n C 53 3 dX0_ownField_52 rfl rfl ?_
              refine x_aM C hκ 54 hX hs (by omega) (by omega) dX0_ownField_53 rfl ?_
              exact z_aret C dX0_ownField_54 (Or.inl ⟨_, rfl⟩) (Or.inr ⟨_, rfl⟩) (Nat.le_of_ble_eq_true rfl) (Nat.le_of_ble_eq_true rfl) ⟨congrArg some (by rw [ofI_y hUq (k := k) (by omega) (by assumption) (by omega) (by omega), xo_y (by omega)]; rfl), rfl⟩
  refine z_as (lv' := [(0, .ref (σ 0 (0))), (1, .ref (σ 10 (t))), (2, .int (iI (n))), (3, .int (iI (((0) : Int))))]) rfl rfl rfl ?_
  exact L2_1 _ (0) (by omega) (fun j hj => absurd hj (Nat.not_lt_zero _)) (Nat.lt_succ_self _)
set_option maxRecDepth 100000 in
theorem k0_ownMethod {l : Launch} {θ : zTh} {σ : xA} {w : mW} {Lf : Int → List Int} {M N : zMap} (hX : xM θ σ w (Lf) M) (hs : xS w) (hw : mWF w) (hT : zTb θ) (t : Int) (m : Int)  (ht : 0 ≤ t ∧ t < w 0 0) (hm : xMa θ σ w M m) (hUq : xUq w) : ZM θ l yX0_ownMethod cX0_ownMethod 4 (some (.object "ReflectMirror$Member")) ⟨1, 0, 0, 23⟩ [.ref (σ 0 (0)), .ref (σ 10 (t)), .ref (σ 20 (m))] (zP θ M N) (zFn (some (va_rf (xo σ 20 (olI w t m)))) (zP θ M N)) := by
  refine z_start (own := RX0) (nm := "ownMethod") pnX0 rfl rfl (Nat.le_of_ble_eq_true rfl) ?_
  intro κ hκ hκl C
  change Z κ (zP θ M N) 0 0 0 [(0, .ref (σ 0 (0))), (1, .ref (σ 10 (t))), (2, .ref (σ 20 (m)))] []
  have hS := hs.S
  have hB := hS.B
  obtain ⟨hB1, hB2, hB3, hB4, hB5, hB6⟩ := hS.B
  have hC := hS.C
  obtain ⟨h81, h82⟩ := hs.r8
  obtain ⟨f1a, f1b, f1c, f1d⟩ := hm.2.2
  refine z_iconst C 1 dX0_ownMethod_0 rfl ?_
  refine z_istore_n (lv' := [(0, .ref (σ 0 (0))), (1, .ref (σ 10 (t))), (2, .ref (σ 20 (m))), (3, .int (iI (0)))]) C 2 [1, 2, 3, 0] dX0_ownMethod_1 (by decide) rfl rfl ?_
  have L2_2 : ∀ (fu : Nat) (k : Nat) (hk : (k : Int) ≤ w 11 0) (hn : ∀ j : Nat, j < k → (!mb w 16 j && (decide (w 13 j = t) && likeB w j m)) = false) (hme : (w 11 0).toNat - k < fu), Z κ (zP θ M N) 0 0 2 [(0, .ref (σ 0 (0))), (1, .ref (σ 10 (t))), (2, .ref (σ 20 (m))), (3, .int (iI ((k : Int))))] [] := by
    intro fu
    induction fu with
    | zero => intro k hk hn hme; exact absurd hme (Nat.not_lt_zero _)
    | succ fu ih3 =>
      intro k hk hn hme
      have hn0 := hn; clear hn
      refine z_iload_n C 3 3 dX0_ownMethod_2 rfl rfl ?_
      refine z_aload_n C 4 0 dX0_ownMethod_3 rfl rfl ?_
      refine z_getf C hκ (v := .int (iI (w 11 0))) 7 3 zk_X0 hX.o (by decide) q330 (Or.inl rfl) rfl dX0_ownMethod_4 rfl ?_
      refine z_icmp_ge C 61 10 dX0_ownMethod_7 (by decide) ⟨by omega, by omega⟩ ⟨by omega, by omega⟩ rfl (fun c4 => ?_) (fun c4 => ?_)
      · skip
        refine z_null C 62 dX0_ownMethod_61 rfl ?_
        exact z_aret C dX0_ownMethod_62 (Or.inl ⟨_, rfl⟩) (Or.inl rfl) (Nat.le_of_ble_eq_true rfl) (Nat.le_of_ble_eq_true rfl) ⟨congrArg some (by rw [olI_n (k := k) (by omega) hn0, xo_n (by decide)]; rfl), rfl⟩
      · skip
        refine z_aload_n C 11 0 dX0_ownMethod_10 rfl rfl ?_
        refine z_getf C hκ (v := .ref (σ 2 (0))) 14 2 zk_X0 hX.o (by decide) q329 (Or.inl rfl) rfl dX0_ownMethod_11 rfl ?_
        refine z_iload_n C 15 3 dX0_ownMethod_14 rfl rfl ?_
        refine x_aM C hκ 16 hX hs (by omega) (by omega) dX0_ownMethod_15 rfl ?_
        obtain ⟨f5a, f5b, f5c, f5d⟩ := hS.M (show 0 ≤ (k : Int) by omega) (by omega)
        refine z_getf C hκ (v := .ref (σ 10 (w 13 ((k : Int))))) 19 1 zk_X9 (hX.mem (by omega) (by omega)) (by decide) q657 (Or.inl rfl) rfl dX0_ownMethod_16 rfl ?_
        refine z_aload_n C 20 1 dX0_ownMethod_19 rfl rfl ?_
        have c6i := xo_T hX (a := w 13 ((k : Int))) (b := t) (by omega) (by omega) (by omega) (by omega)
        refine z_acmp_ne C (xo σ 10 (w 13 ((k : Int)))) (xo σ 10 (t)) 55 23 dX0_ownMethod_20 (by decide) rfl (by rw [xo_y (by omega)]; rfl) (by rw [xo_y (by omega)]; rfl) (fun c6 => ?_) (fun c6 => ?_)
        · skip
          have c6b : ¬ (w 13 ((k : Int)) = t) := fun h9 => c6 (c6i.mpr h9); clear c6i
          refine z_iinc (lv' := [(0, .ref (σ 0 (0))), (1, .ref (σ 10 (t))), (2, .ref (σ 20 (m))), (3, .int (iI (((k : Int)) + 1)))]) C 58 3 [1, 2, 3, 0] dX0_ownMethod_55 rfl (by decide) rfl rfl ?_
          refine z_goto C 2 dX0_ownMethod_58 (by decide) ?_
          refine z_as (lv' := [(0, .ref (σ 0 (0))), (1, .ref (σ 10 (t))), (2, .ref (σ 20 (m))), (3, .int (iI (((k + 1) : Int))))]) rfl rfl rfl ?_
          exact ih3 (k + 1) (by omega) (fun j hj => (Nat.lt_or_eq_of_le (Nat.le_of_lt_succ hj)).elim (hn0 j) (fun h => by rw [h]; clear hn0; clear C hκ hκl hS hB hB1 hB2 hB3 hB4 hB5 hB6 hC hw hX hs hT h81 h82 f1a f1b f1c f1d ih3 hme f5a f5b f5c f5d; first | (simp_all; done) | grind)) (by omega)
        · skip
          have c6b : w 13 ((k : Int)) = t := c6i.mp c6; clear c6i
          refine z_aload_n C 24 0 dX0_ownMethod_23 rfl rfl ?_
          refine z_getf C hκ (v := .ref (σ 2 (0))) 27 2 zk_X0 hX.o (by decide) q329 (Or.inl rfl) rfl dX0_ownMethod_24 rfl ?_
          refine z_iload_n C 28 3 dX0_ownMethod_27 rfl rfl ?_
          refine x_aM C hκ 29 hX hs (by omega) (by omega) dX0_ownMethod_28 rfl ?_
          refine z_getf C hκ (v := .int (iI (bI (mb w 16 ((k : Int)))))) 32 4 zk_X9 (hX.mem (by omega) (by omega)) (by decide) q664 (Or.inl rfl) rfl dX0_ownMethod_29 rfl ?_
          refine z_ifB_ne C 55 35 dX0_ownMethod_32 (by decide) rfl (fun c7 => ?_) (fun c7 => ?_)
          · skip
            have c7b : (w 16 ((k : Int)) = 1) := of_decide_eq_true c7
            refine z_iinc (lv' := [(0, .ref (σ 0 (0))), (1, .ref (σ 10 (t))), (2, .ref (σ 20 (m))), (3, .int (iI (((k : Int)) + 1)))]) C 58 3 [1, 2, 3, 0] dX0_ownMethod_55 rfl (by decide) rfl rfl ?_
            refine z_goto C 2 dX0_ownMethod_58 (by decide) ?_
            refine z_as (lv' := [(0, .ref (σ 0 (0))), (1, .ref (σ 10 (t))), (2, .ref (σ 20 (m))), (3, .int (iI (((k + 1) : Int))))]) rfl rfl rfl ?_
            exact ih3 (k + 1) (by omega) (fun j hj => (Nat.lt_or_eq_of_le (Nat.le_of_lt_succ hj)).elim (hn0 j) (fun h => by rw [h]; clear hn0; clear C hκ hκl hS hB hB1 hB2 hB3 hB4 hB5 hB6 hC hw hX hs hT h81 h82 f1a f1b f1c f1d ih3 hme f5a f5b f5c f5d; first | (simp_all; done) | grind)) (by omega)
          · skip
            have c7b : ¬ (w 16 ((k : Int)) = 1) := of_decide_eq_false c7
            refine z_aload_n C 36 0 dX0_ownMethod_35 rfl rfl ?_
            refine z_getf C hκ (v := .ref (σ 2 (0))) 39 2 zk_X0 hX.o (by decide) q329 (Or.inl rfl) rfl dX0_ownMethod_36 rfl ?_
            refine z_iload_n C 40 3 dX0_ownMethod_39 rfl rfl ?_
            refine x_aM C hκ 41 hX hs (by omega) (by omega) dX0_ownMethod_40 rfl ?_
            refine z_aload_n C 42 2 dX0_ownMethod_41 rfl rfl ?_
            refine z_callV (As := [.ref (σ 20 (m))]) (rest := []) C hκ hκl 45 (k9_isLike hX hs hw hT ((k : Int)) (m) ⟨by omega, by omega⟩ hm) dX0_ownMethod_42 q758 q759 q760 q103 q761 znX9_isLike (Nat.le_of_ble_eq_true rfl) (Nat.le_of_ble_eq_true rfl) (Nat.le_of_ble_eq_true rfl) (Nat.le_of_ble_eq_true rfl) (zrec_P (hX.mem (by omega) (by omega))) rfl rfl (Nat.le_of_ble_eq_true rfl) rfl (fun v9 Q9 h9 => ?_)
            obtain ⟨rfl, rfl⟩ := h9
            refine z_as (st' := [.int (iI (bI (likeB w ((k : Int)) (m))))]) rfl rfl rfl ?_
            refine z_ifB_eq C 55 48 dX0_ownMethod_45 (by decide) rfl (fun c8 => ?_) (fun c8 => ?_)
            · skip
              refine z_iinc (lv' := [(0, .ref (σ 0 (0))), (1, .ref (σ 10 (t))), (2, .ref (σ 20 (m))), (3, .int (iI (((k : Int)) + 1)))]) C 58 3 [1, 2, 3, 0] dX0_ownMethod_55 rfl (by decide) rfl rfl ?_
              refine z_goto C 2 dX0_ownMethod_58 (by decide) ?_
              refine z_as (lv' := [(0, .ref (σ 0 (0))), (1, .ref (σ 10 (t))), (2, .ref (σ 20 (m))), (3, .int (iI (((k + 1) : Int))))]) rfl rfl rfl ?_
              exact ih3 (k + 1) (by omega) (fun j hj => (Nat.lt_or_eq_of_le (Nat.le_of_lt_succ hj)).elim (hn0 j) (fun h => by rw [h]; clear hn0; clear C hκ hκl hS hB hB1 hB2 hB3 hB4 hB5 hB6 hC hw hX hs hT h81 h82 f1a f1b f1c f1d ih3 hme f5a f5b f5c f5d; first | (simp_all; done) | grind)) (by omega)
            · skip
              refine z_aload_n C 49 0 dX0_ownMethod_48 rfl rfl ?_
              refine z_getf C hκ (v := .ref (σ 2 (0))) 52 2 zk_X0 hX.o (by decide) q329 (Or.inl rfl) rfl dX0_ownMethod_49 rfl ?_
              refine z_iload_n C 53 3 dX0_ownMethod_52 rfl rfl ?_
              refine x_aM C hκ 54 hX hs (by omega) (by omega) dX0_ownMethod_53 rfl ?_
              exact z_aret C dX0_ownMethod_54 (Or.inl ⟨_, rfl⟩) (Or.inr ⟨_, rfl⟩) (Nat.le_of_ble_eq_true rfl) (Nat.le_of_ble_eq_true rfl) ⟨congrArg some (by rw [olI_y hUq (k := k) (by omega) (by assumption) (by omega) (by assumption), xo_y (by omega)]; rfl), rfl⟩
  refine z_as (lv' := [(0, .ref (σ 0 (0))), (1, .ref (σ 10 (t))), (2, .ref (σ 20 (m))), (3, .int (iI (((0) : Int))))]) rfl rfl rfl ?_
  exact L2_2 _ (0) (by omega) (fun j hj => absurd hj (Nat.not_lt_zero _)) (Nat.lt_succ_self _)
set_option maxRecDepth 100000 in
theorem k9_overrides {l : Launch} {θ : zTh} {σ : xA} {w : mW} {M N : zMap} (hX : xM θ σ w (xL w) M) (hs : xS w) (hw : mWF w) (hT : zTb θ) (m : Int) (n : Int)  (hm : 0 ≤ m ∧ m < w 11 0) (hn : 0 ≤ n ∧ n < w 11 0) : ZM θ l yX9_overrides cX9_overrides 3 (some .boolean) ⟨247, 0, 0, 2530⟩ [.ref (σ 20 (m)), .ref (σ 20 (n))] (zP θ M N) (zFn (some (.int (iI (bI (ovB w m n))))) (zP θ M N)) := by
  refine z_start (own := RX9) (nm := "overrides") pnX9 rfl rfl (Nat.le_of_ble_eq_true rfl) ?_
  intro κ hκ hκl C
  change Z κ (zP θ M N) 0 0 0 [(0, .ref (σ 20 (m))), (1, .ref (σ 20 (n)))] []
  have hS := hs.S
  have hB := hS.B
  obtain ⟨hB1, hB2, hB3, hB4, hB5, hB6⟩ := hS.B
  have hC := hS.C
  obtain ⟨h81, h82⟩ := hs.r8
  obtain ⟨f1a, f1b, f1c, f1d⟩ := hS.M (show 0 ≤ m by omega) (by omega)
  obtain ⟨f2a, f2b, f2c, f2d⟩ := hS.M (show 0 ≤ n by omega) (by omega)
  have hg : giB w (w 13 m) (w 13 n) = isa w (w 13 m) (w 13 n) := gi_88 (by omega) (by omega)
  refine z_aload_n C 1 1 dX9_overrides_0 rfl rfl ?_
  refine z_callV (As := []) (rest := []) C hκ hκl 4 (k9_who hX hs hw hT (n) ⟨by omega, by omega⟩) dX9_overrides_1 q1041 q955 q956 q103 q957 znX9_who (Nat.le_of_ble_eq_true rfl) (Nat.le_of_ble_eq_true rfl) (Nat.le_of_ble_eq_true rfl) (Nat.le_of_ble_eq_true rfl) (zrec_P (hX.mem (by omega) (by omega))) rfl rfl (Nat.le_of_ble_eq_true rfl) rfl (fun v9 Q9 h9 => ?_)
  obtain ⟨rfl, rfl⟩ := h9
  refine z_as (st' := [.int (iI (whoI w (n)))]) rfl rfl rfl ?_
  refine z_iconst C 5 dX9_overrides_4 rfl ?_
  refine z_icmp_eq C 33 8 dX9_overrides_5 (by decide) (inR_zand _ _) ⟨by decide, by decide⟩ rfl (fun c3 => ?_) (fun c3 => ?_)
  · skip
    refine z_iconst C 34 dX9_overrides_33 rfl ?_
    refine z_goto C 38 dX9_overrides_34 (by decide) ?_
    refine z_istore_n (lv' := [(0, .ref (σ 20 (m))), (1, .ref (σ 20 (n))), (2, .int (iI (1)))]) C 39 [1, 2, 0] dX9_overrides_38 (by decide) rfl rfl ?_
    refine z_aload_n C 40 0 dX9_overrides_39 rfl rfl ?_
    refine z_aload_n C 41 1 dX9_overrides_40 rfl rfl ?_
    refine z_callV (As := [.ref (σ 20 (n))]) (rest := []) C hκ hκl 44 (k9_isLike hX hs hw hT (m) (n) ⟨by omega, by omega⟩ (hX.ma hs (by omega) (by omega))) dX9_overrides_41 q1216 q759 q760 q103 q761 znX9_isLike (Nat.le_of_ble_eq_true rfl) (Nat.le_of_ble_eq_true rfl) (Nat.le_of_ble_eq_true rfl) (Nat.le_of_ble_eq_true rfl) (zrec_P (hX.mem (by omega) (by omega))) rfl rfl (Nat.le_of_ble_eq_true rfl) rfl (fun v9 Q9 h9 => ?_)
    obtain ⟨rfl, rfl⟩ := h9
    refine z_as (st' := [.int (iI (bI (likeB w (m) (n))))]) rfl rfl rfl ?_
    refine z_ifB_eq C 94 47 dX9_overrides_44 (by decide) rfl (fun c4 => ?_) (fun c4 => ?_)
    · skip
      refine z_iconst C 95 dX9_overrides_94 rfl ?_
      refine z_as (st' := [.int (iI (bI (false)))]) rfl rfl rfl ?_
      exact z_iret C dX9_overrides_95 (bI_nar _) (Nat.le_of_ble_eq_true rfl) (Nat.le_of_ble_eq_true rfl) ⟨congrArg (fun b => some (Value.int (iI (bI b)))) (by clear C hκ hκl hS hB hB1 hB2 hB3 hB4 hB5 hB6 hC hw hX hs hT h81 h82 f1a f1b f1c f1d f2a f2b f2c f2d; first | (simp_all [ovB]; done) | (simp_all [ovB] <;> omega) | (grind [ovB]) | (simp [ovB] at * <;> omega)), rfl⟩
    · skip
      refine z_aload_n C 48 0 dX9_overrides_47 rfl rfl ?_
      refine z_callV (As := []) (rest := []) C hκ hκl 51 (k9_isMet hX hs hw hT (m) ⟨by omega, by omega⟩) dX9_overrides_48 q1217 q1033 q1034 q103 q1035 znX9_isMet (Nat.le_of_ble_eq_true rfl) (Nat.le_of_ble_eq_true rfl) (Nat.le_of_ble_eq_true rfl) (Nat.le_of_ble_eq_true rfl) (zrec_P (hX.mem (by omega) (by omega))) rfl rfl (Nat.le_of_ble_eq_true rfl) rfl (fun v9 Q9 h9 => ?_)
      obtain ⟨rfl, rfl⟩ := h9
      refine z_as (st' := [.int (iI (bI (!hasB w (m) 4 && !prB w (m))))]) rfl rfl rfl ?_
      refine z_ifB_eq C 94 54 dX9_overrides_51 (by decide) rfl (fun c5 => ?_) (fun c5 => ?_)
      · skip
        refine z_iconst C 95 dX9_overrides_94 rfl ?_
        refine z_as (st' := [.int (iI (bI (false)))]) rfl rfl rfl ?_
        exact z_iret C dX9_overrides_95 (bI_nar _) (Nat.le_of_ble_eq_true rfl) (Nat.le_of_ble_eq_true rfl) ⟨congrArg (fun b => some (Value.int (iI (bI b)))) (by clear C hκ hκl hS hB hB1 hB2 hB3 hB4 hB5 hB6 hC hw hX hs hT h81 h82 f1a f1b f1c f1d f2a f2b f2c f2d; first | (simp_all [ovB]; done) | (simp_all [ovB] <;> omega) | (grind [ovB]) | (simp [ovB] at * <;> omega)), rfl⟩
      · skip
        refine z_aload_n C 55 1 dX9_overrides_54 rfl rfl ?_
        refine z_callV (As := []) (rest := []) C hκ hκl 58 (k9_isMet hX hs hw hT (n) ⟨by omega, by omega⟩) dX9_overrides_55 q1217 q1033 q1034 q103 q1035 znX9_isMet (Nat.le_of_ble_eq_true rfl) (Nat.le_of_ble_eq_true rfl) (Nat.le_of_ble_eq_true rfl) (Nat.le_of_ble_eq_true rfl) (zrec_P (hX.mem (by omega) (by omega))) rfl rfl (Nat.le_of_ble_eq_true rfl) rfl (fun v9 Q9 h9 => ?_)
        obtain ⟨rfl, rfl⟩ := h9
        refine z_as (st' := [.int (iI (bI (!hasB w (n) 4 && !prB w (n))))]) rfl rfl rfl ?_
        refine z_ifB_eq C 94 61 dX9_overrides_58 (by decide) rfl (fun c6 => ?_) (fun c6 => ?_)
        · skip
          refine z_iconst C 95 dX9_overrides_94 rfl ?_
          refine z_as (st' := [.int (iI (bI (false)))]) rfl rfl rfl ?_
          exact z_iret C dX9_overrides_95 (bI_nar _) (Nat.le_of_ble_eq_true rfl) (Nat.le_of_ble_eq_true rfl) ⟨congrArg (fun b => some (Value.int (iI (bI b)))) (by clear C hκ hκl hS hB hB1 hB2 hB3 hB4 hB5 hB6 hC hw hX hs hT h81 h82 f1a f1b f1c f1d f2a f2b f2c f2d; first | (simp_all [ovB]; done) | (simp_all [ovB] <;> omega) | (grind [ovB]) | (simp [ovB] at * <;> omega)), rfl⟩
        · skip
          refine z_aload_n C 62 0 dX9_overrides_61 rfl rfl ?_
          refine z_getf C hκ (v := .ref (σ 10 (w 13 (m)))) 65 1 zk_X9 (hX.mem (by omega) (by omega)) (by decide) q656 (Or.inl rfl) rfl dX9_overrides_62 rfl ?_
          refine z_aload_n C 66 1 dX9_overrides_65 rfl rfl ?_
          refine z_getf C hκ (v := .ref (σ 10 (w 13 (n)))) 69 1 zk_X9 (hX.mem (by omega) (by omega)) (by decide) q656 (Or.inl rfl) rfl dX9_overrides_66 rfl ?_
          have c7i := xo_T hX (a := w 13 (m)) (b := w 13 (n)) (by omega) (by omega) (by omega) (by omega)
          refine z_acmp_eq C (xo σ 10 (w 13 (m))) (xo σ 10 (w 13 (n))) 94 72 dX9_overrides_69 (by decide) rfl (by rw [xo_y (by omega)]; rfl) (by rw [xo_y (by omega)]; rfl) (fun c7 => ?_) (fun c7 => ?_)
          · skip
            have c7b : w 13 (m) = w 13 (n) := c7i.mp c7; clear c7i
            refine z_iconst C 95 dX9_overrides_94 rfl ?_
            refine z_as (st' := [.int (iI (bI (false)))]) rfl rfl rfl ?_
            exact z_iret C dX9_overrides_95 (bI_nar _) (Nat.le_of_ble_eq_true rfl) (Nat.le_of_ble_eq_true rfl) ⟨congrArg (fun b => some (Value.int (iI (bI b)))) (by clear C hκ hκl hS hB hB1 hB2 hB3 hB4 hB5 hB6 hC hw hX hs hT h81 h82 f1a f1b f1c f1d f2a f2b f2c f2d; first | (simp_all [ovB]; done) | (simp_all [ovB] <;> omega) | (grind [ovB]) | (simp [ovB] at * <;> omega)), rfl⟩
          · skip
            have c7b : ¬ (w 13 (m) = w 13 (n)) := fun h9 => c7 (c7i.mpr h9); clear c7i
            refine z_aload_n C 73 0 dX9_overrides_72 rfl rfl ?_
            refine z_getf C hκ (v := .ref (σ 10 (w 13 (m)))) 76 1 zk_X9 (hX.mem (by omega) (by omega)) (by decide) q656 (Or.inl rfl) rfl dX9_overrides_73 rfl ?_
            refine z_aload_n C 77 1 dX9_overrides_76 rfl rfl ?_
            refine z_getf C hκ (v := .ref (σ 10 (w 13 (n)))) 80 1 zk_X9 (hX.mem (by omega) (by omega)) (by decide) q656 (Or.inl rfl) rfl dX9_overrides_77 rfl ?_
            obtain ⟨f8a, f8b, f8c, f8d, f8e, f8f, f8g, f8h⟩ := hS.T (show 0 ≤ w 13 (m) by omega) (by omega)
            obtain ⟨f8i, f8j, f8k, f8l⟩ := hs.ty (show 0 ≤ w 13 (m) by omega) (by omega)
            obtain ⟨f9a, f9b, f9c, f9d, f9e, f9f, f9g, f9h⟩ := hS.T (show 0 ≤ w 13 (n) by omega) (by omega)
            obtain ⟨f9i, f9j, f9k, f9l⟩ := hs.ty (show 0 ≤ w 13 (n) by omega) (by omega)
            refine xv_is (rest := []) C hκ hκl hX hs hw hT (w 13 (m)) (w 13 (n)) ⟨(by omega), (by omega)⟩ ⟨(by omega), (by omega)⟩ 83 dX9_overrides_80 q1218 (Nat.le_of_ble_eq_true rfl) (Nat.le_of_ble_eq_true rfl) (Nat.le_of_ble_eq_true rfl) (Nat.le_of_ble_eq_true rfl) (Nat.le_of_ble_eq_true rfl) rfl ?_
            refine z_as (st' := [.int (iI (bI (giB w (w 13 (m)) (w 13 (n)))))]) rfl rfl rfl ?_
            refine z_ifB_eq C 94 86 dX9_overrides_83 (by decide) rfl (fun c10 => ?_) (fun c10 => ?_)
            · skip
              refine z_iconst C 95 dX9_overrides_94 rfl ?_
              refine z_as (st' := [.int (iI (bI (false)))]) rfl rfl rfl ?_
              exact z_iret C dX9_overrides_95 (bI_nar _) (Nat.le_of_ble_eq_true rfl) (Nat.le_of_ble_eq_true rfl) ⟨congrArg (fun b => some (Value.int (iI (bI b)))) (by clear C hκ hκl hS hB hB1 hB2 hB3 hB4 hB5 hB6 hC hw hX hs hT h81 h82 f1a f1b f1c f1d f2a f2b f2c f2d f8a f8b f8c f8d f8e f8f f8g f8h f8i f8j f8k f8l f9a f9b f9c f9d f9e f9f f9g f9h f9i f9j f9k f9l; first | (simp_all [ovB]; done) | (simp_all [ovB] <;> omega) | (grind [ovB]) | (simp [ovB] at * <;> omega)), rfl⟩
            · skip
              refine z_iload_n C 87 2 dX9_overrides_86 rfl rfl ?_
              refine z_if_eq C 94 90 dX9_overrides_87 (by decide) ⟨by decide, by decide⟩ rfl (fun c11 => absurd c11 (by decide)) (fun c11 => ?_)
              refine z_iconst C 91 dX9_overrides_90 rfl ?_
              refine z_goto C 95 dX9_overrides_91 (by decide) ?_
              refine z_as (st' := [.int (iI (bI (true)))]) rfl rfl rfl ?_
              exact z_iret C dX9_overrides_95 (bI_nar _) (Nat.le_of_ble_eq_true rfl) (Nat.le_of_ble_eq_true rfl) ⟨congrArg (fun b => some (Value.int (iI (bI b)))) (by clear C hκ hκl hS hB hB1 hB2 hB3 hB4 hB5 hB6 hC hw hX hs hT h81 h82 f1a f1b f1c f1d f2a f2b f2c f2d f8a f8b f8c f8d f8e f8f f8g f8h f8i f8j f8k f8l f9a f9b f9c f9d f9e f9f f9g f9h f9i f9j f9k f9l; first | (simp_all [ovB]; done) | (simp_all [ovB] <;> omega) | (grind [ovB]) | (simp [ovB] at * <;> omega)), rfl⟩
  · skip
    refine z_aload_n C 9 1 dX9_overrides_8 rfl rfl ?_
    refine z_callV (As := []) (rest := []) C hκ hκl 12 (k9_who hX hs hw hT (n) ⟨by omega, by omega⟩) dX9_overrides_9 q1041 q955 q956 q103 q957 znX9_who (Nat.le_of_ble_eq_true rfl) (Nat.le_of_ble_eq_true rfl) (Nat.le_of_ble_eq_true rfl) (Nat.le_of_ble_eq_true rfl) (zrec_P (hX.mem (by omega) (by omega))) rfl rfl (Nat.le_of_ble_eq_true rfl) rfl (fun v9 Q9 h9 => ?_)
    obtain ⟨rfl, rfl⟩ := h9
    refine z_as (st' := [.int (iI (whoI w (n)))]) rfl rfl rfl ?_
    refine z_iconst C 13 dX9_overrides_12 rfl ?_
    refine z_icmp_eq C 33 16 dX9_overrides_13 (by decide) (inR_zand _ _) ⟨by decide, by decide⟩ rfl (fun c12 => ?_) (fun c12 => ?_)
    · skip
      refine z_iconst C 34 dX9_overrides_33 rfl ?_
      refine z_goto C 38 dX9_overrides_34 (by decide) ?_
      refine z_istore_n (lv' := [(0, .ref (σ 20 (m))), (1, .ref (σ 20 (n))), (2, .int (iI (1)))]) C 39 [1, 2, 0] dX9_overrides_38 (by decide) rfl rfl ?_
      refine z_aload_n C 40 0 dX9_overrides_39 rfl rfl ?_
      refine z_aload_n C 41 1 dX9_overrides_40 rfl rfl ?_
      refine z_callV (As := [.ref (σ 20 (n))]) (rest := []) C hκ hκl 44 (k9_isLike hX hs hw hT (m) (n) ⟨by omega, by omega⟩ (hX.ma hs (by omega) (by omega))) dX9_overrides_41 q1216 q759 q760 q103 q761 znX9_isLike (Nat.le_of_ble_eq_true rfl) (Nat.le_of_ble_eq_true rfl) (Nat.le_of_ble_eq_true rfl) (Nat.le_of_ble_eq_true rfl) (zrec_P (hX.mem (by omega) (by omega))) rfl rfl (Nat.le_of_ble_eq_true rfl) rfl (fun v9 Q9 h9 => ?_)
      obtain ⟨rfl, rfl⟩ := h9
      refine z_as (st' := [.int (iI (bI (likeB w (m) (n))))]) rfl rfl rfl ?_
      refine z_ifB_eq C 94 47 dX9_overrides_44 (by decide) rfl (fun c13 => ?_) (fun c13 => ?_)
      · skip
        refine z_iconst C 95 dX9_overrides_94 rfl ?_
        refine z_as (st' := [.int (iI (bI (false)))]) rfl rfl rfl ?_
        exact z_iret C dX9_overrides_95 (bI_nar _) (Nat.le_of_ble_eq_true rfl) (Nat.le_of_ble_eq_true rfl) ⟨congrArg (fun b => some (Value.int (iI (bI b)))) (by clear C hκ hκl hS hB hB1 hB2 hB3 hB4 hB5 hB6 hC hw hX hs hT h81 h82 f1a f1b f1c f1d f2a f2b f2c f2d; first | (simp_all [ovB]; done) | (simp_all [ovB] <;> omega) | (grind [ovB]) | (simp [ovB] at * <;> omega)), rfl⟩
      · skip
        refine z_aload_n C 48 0 dX9_overrides_47 rfl rfl ?_
        refine z_callV (As := []) (rest := []) C hκ hκl 51 (k9_isMet hX hs hw hT (m) ⟨by omega, by omega⟩) dX9_overrides_48 q1217 q1033 q1034 q103 q1035 znX9_isMet (Nat.le_of_ble_eq_true rfl) (Nat.le_of_ble_eq_true rfl) (Nat.le_of_ble_eq_true rfl) (Nat.le_of_ble_eq_true rfl) (zrec_P (hX.mem (by omega) (by omega))) rfl rfl (Nat.le_of_ble_eq_true rfl) rfl (fun v9 Q9 h9 => ?_)
        obtain ⟨rfl, rfl⟩ := h9
        refine z_as (st' := [.int (iI (bI (!hasB w (m) 4 && !prB w (m))))]) rfl rfl rfl ?_
        refine z_ifB_eq C 94 54 dX9_overrides_51 (by decide) rfl (fun c14 => ?_) (fun c14 => ?_)
        · skip
          refine z_iconst C 95 dX9_overrides_94 rfl ?_
          refine z_as (st' := [.int (iI (bI (false)))]) rfl rfl rfl ?_
          exact z_iret C dX9_overrides_95 (bI_nar _) (Nat.le_of_ble_eq_true rfl) (Nat.le_of_ble_eq_true rfl) ⟨congrArg (fun b => some (Value.int (iI (bI b)))) (by clear C hκ hκl hS hB hB1 hB2 hB3 hB4 hB5 hB6 hC hw hX hs hT h81 h82 f1a f1b f1c f1d f2a f2b f2c f2d; first | (simp_all [ovB]; done) | (simp_all [ovB] <;> omega) | (grind [ovB]) | (simp [ovB] at * <;> omega)), rfl⟩
        · skip
          refine z_aload_n C 55 1 dX9_overrides_54 rfl rfl ?_
          refine z_callV (As := []) (rest := []) C hκ hκl 58 (k9_isMet hX hs hw hT (n) ⟨by omega, by omega⟩) dX9_overrides_55 q1217 q1033 q1034 q103 q1035 znX9_isMet (Nat.le_of_ble_eq_true rfl) (Nat.le_of_ble_eq_true rfl) (Nat.le_of_ble_eq_true rfl) (Nat.le_of_ble_eq_true rfl) (zrec_P (hX.mem (by omega) (by omega))) rfl rfl (Nat.le_of_ble_eq_true rfl) rfl (fun v9 Q9 h9 => ?_)
          obtain ⟨rfl, rfl⟩ := h9
          refine z_as (st' := [.int (iI (bI (!hasB w (n) 4 && !prB w (n))))]) rfl rfl rfl ?_
          refine z_ifB_eq C 94 61 dX9_overrides_58 (by decide) rfl (fun c15 => ?_) (fun c15 => ?_)
          · skip
            refine z_iconst C 95 dX9_overrides_94 rfl ?_
            refine z_as (st' := [.int (iI (bI (false)))]) rfl rfl rfl ?_
            exact z_iret C dX9_overrides_95 (bI_nar _) (Nat.le_of_ble_eq_true rfl) (Nat.le_of_ble_eq_true rfl) ⟨congrArg (fun b => some (Value.int (iI (bI b)))) (by clear C hκ hκl hS hB hB1 hB2 hB3 hB4 hB5 hB6 hC hw hX hs hT h81 h82 f1a f1b f1c f1d f2a f2b f2c f2d; first | (simp_all [ovB]; done) | (simp_all [ovB] <;> omega) | (grind [ovB]) | (simp [ovB] at * <;> omega)), rfl⟩
          · skip
            refine z_aload_n C 62 0 dX9_overrides_61 rfl rfl ?_
            refine z_getf C hκ (v := .ref (σ 10 (w 13 (m)))) 65 1 zk_X9 (hX.mem (by omega) (by omega)) (by decide) q656 (Or.inl rfl) rfl dX9_overrides_62 rfl ?_
            refine z_aload_n C 66 1 dX9_overrides_65 rfl rfl ?_
            refine z_getf C hκ (v := .ref (σ 10 (w 13 (n)))) 69 1 zk_X9 (hX.mem (by omega) (by omega)) (by decide) q656 (Or.inl rfl) rfl dX9_overrides_66 rfl ?_
            have c16i := xo_T hX (a := w 13 (m)) (b := w 13 (n)) (by omega) (by omega) (by omega) (by omega)
            refine z_acmp_eq C (xo σ 10 (w 13 (m))) (xo σ 10 (w 13 (n))) 94 72 dX9_overrides_69 (by decide) rfl (by rw [xo_y (by omega)]; rfl) (by rw [xo_y (by omega)]; rfl) (fun c16 => ?_) (fun c16 => ?_)
            · skip
              have c16b : w 13 (m) = w 13 (n) := c16i.mp c16; clear c16i
              refine z_iconst C 95 dX9_overrides_94 rfl ?_
              refine z_as (st' := [.int (iI (bI (false)))]) rfl rfl rfl ?_
              exact z_iret C dX9_overrides_95 (bI_nar _) (Nat.le_of_ble_eq_true rfl) (Nat.le_of_ble_eq_true rfl) ⟨congrArg (fun b => some (Value.int (iI (bI b)))) (by clear C hκ hκl hS hB hB1 hB2 hB3 hB4 hB5 hB6 hC hw hX hs hT h81 h82 f1a f1b f1c f1d f2a f2b f2c f2d; first | (simp_all [ovB]; done) | (simp_all [ovB] <;> omega) | (grind [ovB]) | (simp [ovB] at * <;> omega)), rfl⟩
            · skip
              have c16b : ¬ (w 13 (m) = w 13 (n)) := fun h9 => c16 (c16i.mpr h9); clear c16i
              refine z_aload_n C 73 0 dX9_overrides_72 rfl rfl ?_
              refine z_getf C hκ (v := .ref (σ 10 (w 13 (m)))) 76 1 zk_X9 (hX.mem (by omega) (by omega)) (by decide) q656 (Or.inl rfl) rfl dX9_overrides_73 rfl ?_
              refine z_aload_n C 77 1 dX9_overrides_76 rfl rfl ?_
              refine z_getf C hκ (v := .ref (σ 10 (w 13 (n)))) 80 1 zk_X9 (hX.mem (by omega) (by omega)) (by decide) q656 (Or.inl rfl) rfl dX9_overrides_77 rfl ?_
              obtain ⟨f17a, f17b, f17c, f17d, f17e, f17f, f17g, f17h⟩ := hS.T (show 0 ≤ w 13 (m) by omega) (by omega)
              obtain ⟨f17i, f17j, f17k, f17l⟩ := hs.ty (show 0 ≤ w 13 (m) by omega) (by omega)
              obtain ⟨f18a, f18b, f18c, f18d, f18e, f18f, f18g, f18h⟩ := hS.T (show 0 ≤ w 13 (n) by omega) (by omega)
              obtain ⟨f18i, f18j, f18k, f18l⟩ := hs.ty (show 0 ≤ w 13 (n) by omega) (by omega)
              refine xv_is (rest := []) C hκ hκl hX hs hw hT (w 13 (m)) (w 13 (n)) ⟨(by omega), (by omega)⟩ ⟨(by omega), (by omega)⟩ 83 dX9_overrides_80 q1218 (Nat.le_of_ble_eq_true rfl) (Nat.le_of_ble_eq_true rfl) (Nat.le_of_ble_eq_true rfl) (Nat.le_of_ble_eq_true rfl) (Nat.le_of_ble_eq_true rfl) rfl ?_
              refine z_as (st' := [.int (iI (bI (giB w (w 13 (m)) (w 13 (n)))))]) rfl rfl rfl ?_
              refine z_ifB_eq C 94 86 dX9_overrides_83 (by decide) rfl (fun c19 => ?_) (fun c19 => ?_)
              · skip
                refine z_iconst C 95 dX9_overrides_94 rfl ?_
                refine z_as (st' := [.int (iI (bI (false)))]) rfl rfl rfl ?_
                exact z_iret C dX9_overrides_95 (bI_nar _) (Nat.le_of_ble_eq_true rfl) (Nat.le_of_ble_eq_true rfl) ⟨congrArg (fun b => some (Value.int (iI (bI b)))) (by clear C hκ hκl hS hB hB1 hB2 hB3 hB4 hB5 hB6 hC hw hX hs hT h81 h82 f1a f1b f1c f1d f2a f2b f2c f2d f17a f17b f17c f17d f17e f17f f17g f17h f17i f17j f17k f17l f18a f18b f18c f18d f18e f18f f18g f18h f18i f18j f18k f18l; first | (simp_all [ovB]; done) | (simp_all [ovB] <;> omega) | (grind [ovB]) | (simp [ovB] at * <;> omega)), rfl⟩
              · skip
                refine z_iload_n C 87 2 dX9_overrides_86 rfl rfl ?_
                refine z_if_eq C 94 90 dX9_overrides_87 (by decide) ⟨by decide, by decide⟩ rfl (fun c20 => absurd c20 (by decide)) (fun c20 => ?_)
                refine z_iconst C 91 dX9_overrides_90 rfl ?_
                refine z_goto C 95 dX9_overrides_91 (by decide) ?_
                refine z_as (st' := [.int (iI (bI (true)))]) rfl rfl rfl ?_
                exact z_iret C dX9_overrides_95 (bI_nar _) (Nat.le_of_ble_eq_true rfl) (Nat.le_of_ble_eq_true rfl) ⟨congrArg (fun b => some (Value.int (iI (bI b)))) (by clear C hκ hκl hS hB hB1 hB2 hB3 hB4 hB5 hB6 hC hw hX hs hT h81 h82 f1a f1b f1c f1d f2a f2b f2c f2d f17a f17b f17c f17d f17e f17f f17g f17h f17i f17j f17k f17l f18a f18b f18c f18d f18e f18f f18g f18h f18i f18j f18k f18l; first | (simp_all [ovB]; done) | (simp_all [ovB] <;> omega) | (grind [ovB]) | (simp [ovB] at * <;> omega)), rfl⟩
    · skip
      refine z_aload_n C 17 0 dX9_overrides_16 rfl rfl ?_
      refine z_getf C hκ (v := .ref (σ 10 (w 13 (m)))) 20 1 zk_X9 (hX.mem (by omega) (by omega)) (by decide) q656 (Or.inl rfl) rfl dX9_overrides_17 rfl ?_
      obtain ⟨f21a, f21b, f21c, f21d, f21e, f21f, f21g, f21h⟩ := hS.T (show 0 ≤ w 13 (m) by omega) (by omega)
      obtain ⟨f21i, f21j, f21k, f21l⟩ := hs.ty (show 0 ≤ w 13 (m) by omega) (by omega)
      refine x_tget (v := .int (iI (w 3 (w 13 (m))))) C hκ 23 1 hX hs (by omega) (by omega) (by decide) rfl rfl rfl q178 (Or.inl rfl) rfl dX9_overrides_20 rfl ?_
      refine z_aload_n C 24 1 dX9_overrides_23 rfl rfl ?_
      refine z_getf C hκ (v := .ref (σ 10 (w 13 (n)))) 27 1 zk_X9 (hX.mem (by omega) (by omega)) (by decide) q656 (Or.inl rfl) rfl dX9_overrides_24 rfl ?_
      obtain ⟨f22a, f22b, f22c, f22d, f22e, f22f, f22g, f22h⟩ := hS.T (show 0 ≤ w 13 (n) by omega) (by omega)
      obtain ⟨f22i, f22j, f22k, f22l⟩ := hs.ty (show 0 ≤ w 13 (n) by omega) (by omega)
      refine x_tget (v := .int (iI (w 3 (w 13 (n))))) C hκ 30 1 hX hs (by omega) (by omega) (by decide) rfl rfl rfl q178 (Or.inl rfl) rfl dX9_overrides_27 rfl ?_
      refine z_icmp_ne C 37 33 dX9_overrides_30 (by decide) (hw.r _ _ rfl) (hw.r _ _ rfl) rfl (fun c23 => ?_) (fun c23 => ?_)
      · skip
        refine z_iconst C 38 dX9_overrides_37 rfl ?_
        refine z_istore_n (lv' := [(0, .ref (σ 20 (m))), (1, .ref (σ 20 (n))), (2, .int (iI (0)))]) C 39 [1, 2, 0] dX9_overrides_38 (by decide) rfl rfl ?_
        refine z_aload_n C 40 0 dX9_overrides_39 rfl rfl ?_
        refine z_aload_n C 41 1 dX9_overrides_40 rfl rfl ?_
        refine z_callV (As := [.ref (σ 20 (n))]) (rest := []) C hκ hκl 44 (k9_isLike hX hs hw hT (m) (n) ⟨by omega, by omega⟩ (hX.ma hs (by omega) (by omega))) dX9_overrides_41 q1216 q759 q760 q103 q761 znX9_isLike (Nat.le_of_ble_eq_true rfl) (Nat.le_of_ble_eq_true rfl) (Nat.le_of_ble_eq_true rfl) (Nat.le_of_ble_eq_true rfl) (zrec_P (hX.mem (by omega) (by omega))) rfl rfl (Nat.le_of_ble_eq_true rfl) rfl (fun v9 Q9 h9 => ?_)
        obtain ⟨rfl, rfl⟩ := h9
        refine z_as (st' := [.int (iI (bI (likeB w (m) (n))))]) rfl rfl rfl ?_
        refine z_ifB_eq C 94 47 dX9_overrides_44 (by decide) rfl (fun c24 => ?_) (fun c24 => ?_)
        · skip
          refine z_iconst C 95 dX9_overrides_94 rfl ?_
          refine z_as (st' := [.int (iI (bI (false)))]) rfl rfl rfl ?_
          exact z_iret C dX9_overrides_95 (bI_nar _) (Nat.le_of_ble_eq_true rfl) (Nat.le_of_ble_eq_true rfl) ⟨congrArg (fun b => some (Value.int (iI (bI b)))) (by clear C hκ hκl hS hB hB1 hB2 hB3 hB4 hB5 hB6 hC hw hX hs hT h81 h82 f1a f1b f1c f1d f2a f2b f2c f2d f21a f21b f21c f21d f21e f21f f21g f21h f21i f21j f21k f21l f22a f22b f22c f22d f22e f22f f22g f22h f22i f22j f22k f22l; first | (simp_all [ovB]; done) | (simp_all [ovB] <;> omega) | (grind [ovB]) | (simp [ovB] at * <;> omega)), rfl⟩
        · skip
          refine z_aload_n C 48 0 dX9_overrides_47 rfl rfl ?_
          refine z_callV (As := []) (rest := []) C hκ hκl 51 (k9_isMet hX hs hw hT (m) ⟨by omega, by omega⟩) dX9_overrides_48 q1217 q1033 q1034 q103 q1035 znX9_isMet (Nat.le_of_ble_eq_true rfl) (Nat.le_of_ble_eq_true rfl) (Nat.le_of_ble_eq_true rfl) (Nat.le_of_ble_eq_true rfl) (zrec_P (hX.mem (by omega) (by omega))) rfl rfl (Nat.le_of_ble_eq_true rfl) rfl (fun v9 Q9 h9 => ?_)
          obtain ⟨rfl, rfl⟩ := h9
          refine z_as (st' := [.int (iI (bI (!hasB w (m) 4 && !prB w (m))))]) rfl rfl rfl ?_
          refine z_ifB_eq C 94 54 dX9_overrides_51 (by decide) rfl (fun c25 => ?_) (fun c25 => ?_)
          · skip
            refine z_iconst C 95 dX9_overrides_94 rfl ?_
            refine z_as (st' := [.int (iI (bI (false)))]) rfl rfl rfl ?_
            exact z_iret C dX9_overrides_95 (bI_nar _) (Nat.le_of_ble_eq_true rfl) (Nat.le_of_ble_eq_true rfl) ⟨congrArg (fun b => some (Value.int (iI (bI b)))) (by clear C hκ hκl hS hB hB1 hB2 hB3 hB4 hB5 hB6 hC hw hX hs hT h81 h82 f1a f1b f1c f1d f2a f2b f2c f2d f21a f21b f21c f21d f21e f21f f21g f21h f21i f21j f21k f21l f22a f22b f22c f22d f22e f22f f22g f22h f22i f22j f22k f22l; first | (simp_all [ovB]; done) | (simp_all [ovB] <;> omega) | (grind [ovB]) | (simp [ovB] at * <;> omega)), rfl⟩
          · skip
            refine z_aload_n C 55 1 dX9_overrides_54 rfl rfl ?_
            refine z_callV (As := []) (rest := []) C hκ hκl 58 (k9_isMet hX hs hw hT (n) ⟨by omega, by omega⟩) dX9_overrides_55 q1217 q1033 q1034 q103 q1035 znX9_isMet (Nat.le_of_ble_eq_true rfl) (Nat.le_of_ble_eq_true rfl) (Nat.le_of_ble_eq_true rfl) (Nat.le_of_ble_eq_true rfl) (zrec_P (hX.mem (by omega) (by omega))) rfl rfl (Nat.le_of_ble_eq_true rfl) rfl (fun v9 Q9 h9 => ?_)
            obtain ⟨rfl, rfl⟩ := h9
            refine z_as (st' := [.int (iI (bI (!hasB w (n) 4 && !prB w (n))))]) rfl rfl rfl ?_
            refine z_ifB_eq C 94 61 dX9_overrides_58 (by decide) rfl (fun c26 => ?_) (fun c26 => ?_)
            · skip
              refine z_iconst C 95 dX9_overrides_94 rfl ?_
              refine z_as (st' := [.int (iI (bI (false)))]) rfl rfl rfl ?_
              exact z_iret C dX9_overrides_95 (bI_nar _) (Nat.le_of_ble_eq_true rfl) (Nat.le_of_ble_eq_true rfl) ⟨congrArg (fun b => some (Value.int (iI (bI b)))) (by clear C hκ hκl hS hB hB1 hB2 hB3 hB4 hB5 hB6 hC hw hX hs hT h81 h82 f1a f1b f1c f1d f2a f2b f2c f2d f21a f21b f21c f21d f21e f21f f21g f21h f21i f21j f21k f21l f22a f22b f22c f22d f22e f22f f22g f22h f22i f22j f22k f22l; first | (simp_all [ovB]; done) | (simp_all [ovB] <;> omega) | (grind [ovB]) | (simp [ovB] at * <;> omega)), rfl⟩
            · skip
              refine z_aload_n C 62 0 dX9_overrides_61 rfl rfl ?_
              refine z_getf C hκ (v := .ref (σ 10 (w 13 (m)))) 65 1 zk_X9 (hX.mem (by omega) (by omega)) (by decide) q656 (Or.inl rfl) rfl dX9_overrides_62 rfl ?_
              refine z_aload_n C 66 1 dX9_overrides_65 rfl rfl ?_
              refine z_getf C hκ (v := .ref (σ 10 (w 13 (n)))) 69 1 zk_X9 (hX.mem (by omega) (by omega)) (by decide) q656 (Or.inl rfl) rfl dX9_overrides_66 rfl ?_
              have c27i := xo_T hX (a := w 13 (m)) (b := w 13 (n)) (by omega) (by omega) (by omega) (by omega)
              refine z_acmp_eq C (xo σ 10 (w 13 (m))) (xo σ 10 (w 13 (n))) 94 72 dX9_overrides_69 (by decide) rfl (by rw [xo_y (by omega)]; rfl) (by rw [xo_y (by omega)]; rfl) (fun c27 => ?_) (fun c27 => ?_)
              · skip
                have c27b : w 13 (m) = w 13 (n) := c27i.mp c27; clear c27i
                refine z_iconst C 95 dX9_overrides_94 rfl ?_
                refine z_as (st' := [.int (iI (bI (false)))]) rfl rfl rfl ?_
                exact z_iret C dX9_overrides_95 (bI_nar _) (Nat.le_of_ble_eq_true rfl) (Nat.le_of_ble_eq_true rfl) ⟨congrArg (fun b => some (Value.int (iI (bI b)))) (by clear C hκ hκl hS hB hB1 hB2 hB3 hB4 hB5 hB6 hC hw hX hs hT h81 h82 f1a f1b f1c f1d f2a f2b f2c f2d f21a f21b f21c f21d f21e f21f f21g f21h f21i f21j f21k f21l f22a f22b f22c f22d f22e f22f f22g f22h f22i f22j f22k f22l; first | (simp_all [ovB]; done) | (simp_all [ovB] <;> omega) | (grind [ovB]) | (simp [ovB] at * <;> omega)), rfl⟩
              · skip
                have c27b : ¬ (w 13 (m) = w 13 (n)) := fun h9 => c27 (c27i.mpr h9); clear c27i
                refine z_aload_n C 73 0 dX9_overrides_72 rfl rfl ?_
                refine z_getf C hκ (v := .ref (σ 10 (w 13 (m)))) 76 1 zk_X9 (hX.mem (by omega) (by omega)) (by decide) q656 (Or.inl rfl) rfl dX9_overrides_73 rfl ?_
                refine z_aload_n C 77 1 dX9_overrides_76 rfl rfl ?_
                refine z_getf C hκ (v := .ref (σ 10 (w 13 (n)))) 80 1 zk_X9 (hX.mem (by omega) (by omega)) (by decide) q656 (Or.inl rfl) rfl dX9_overrides_77 rfl ?_
                refine xv_is (rest := []) C hκ hκl hX hs hw hT (w 13 (m)) (w 13 (n)) ⟨(by omega), (by omega)⟩ ⟨(by omega), (by omega)⟩ 83 dX9_overrides_80 q1218 (Nat.le_of_ble_eq_true rfl) (Nat.le_of_ble_eq_true rfl) (Nat.le_of_ble_eq_true rfl) (Nat.le_of_ble_eq_true rfl) (Nat.le_of_ble_eq_true rfl) rfl ?_
                refine z_as (st' := [.int (iI (bI (giB w (w 13 (m)) (w 13 (n)))))]) rfl rfl rfl ?_
                refine z_ifB_eq C 94 86 dX9_overrides_83 (by decide) rfl (fun c28 => ?_) (fun c28 => ?_)
                · skip
                  refine z_iconst C 95 dX9_overrides_94 rfl ?_
                  refine z_as (st' := [.int (iI (bI (false)))]) rfl rfl rfl ?_
                  exact z_iret C dX9_overrides_95 (bI_nar _) (Nat.le_of_ble_eq_true rfl) (Nat.le_of_ble_eq_true rfl) ⟨congrArg (fun b => some (Value.int (iI (bI b)))) (by clear C hκ hκl hS hB hB1 hB2 hB3 hB4 hB5 hB6 hC hw hX hs hT h81 h82 f1a f1b f1c f1d f2a f2b f2c f2d f21a f21b f21c f21d f21e f21f f21g f21h f21i f21j f21k f21l f22a f22b f22c f22d f22e f22f f22g f22h f22i f22j f22k f22l; first | (simp_all [ovB]; done) | (simp_all [ovB] <;> omega) | (grind [ovB]) | (simp [ovB] at * <;> omega)), rfl⟩
                · skip
                  refine z_iload_n C 87 2 dX9_overrides_86 rfl rfl ?_
                  refine z_if_eq C 94 90 dX9_overrides_87 (by decide) ⟨by decide, by decide⟩ rfl (fun c29 => ?_) (fun c29 => absurd c29 (by decide))
                  refine z_iconst C 95 dX9_overrides_94 rfl ?_
                  refine z_as (st' := [.int (iI (bI (false)))]) rfl rfl rfl ?_
                  exact z_iret C dX9_overrides_95 (bI_nar _) (Nat.le_of_ble_eq_true rfl) (Nat.le_of_ble_eq_true rfl) ⟨congrArg (fun b => some (Value.int (iI (bI b)))) (by clear C hκ hκl hS hB hB1 hB2 hB3 hB4 hB5 hB6 hC hw hX hs hT h81 h82 f1a f1b f1c f1d f2a f2b f2c f2d f21a f21b f21c f21d f21e f21f f21g f21h f21i f21j f21k f21l f22a f22b f22c f22d f22e f22f f22g f22h f22i f22j f22k f22l; first | (simp_all [ovB]; done) | (simp_all [ovB] <;> omega) | (grind [ovB]) | (simp [ovB] at * <;> omega)), rfl⟩
      · skip
        refine z_iconst C 34 dX9_overrides_33 rfl ?_
        refine z_goto C 38 dX9_overrides_34 (by decide) ?_
        refine z_istore_n (lv' := [(0, .ref (σ 20 (m))), (1, .ref (σ 20 (n))), (2, .int (iI (1)))]) C 39 [1, 2, 0] dX9_overrides_38 (by decide) rfl rfl ?_
        refine z_aload_n C 40 0 dX9_overrides_39 rfl rfl ?_
        refine z_aload_n C 41 1 dX9_overrides_40 rfl rfl ?_
        refine z_callV (As := [.ref (σ 20 (n))]) (rest := []) C hκ hκl 44 (k9_isLike hX hs hw hT (m) (n) ⟨by omega, by omega⟩ (hX.ma hs (by omega) (by omega))) dX9_overrides_41 q1216 q759 q760 q103 q761 znX9_isLike (Nat.le_of_ble_eq_true rfl) (Nat.le_of_ble_eq_true rfl) (Nat.le_of_ble_eq_true rfl) (Nat.le_of_ble_eq_true rfl) (zrec_P (hX.mem (by omega) (by omega))) rfl rfl (Nat.le_of_ble_eq_true rfl) rfl (fun v9 Q9 h9 => ?_)
        obtain ⟨rfl, rfl⟩ := h9
        refine z_as (st' := [.int (iI (bI (likeB w (m) (n))))]) rfl rfl rfl ?_
        refine z_ifB_eq C 94 47 dX9_overrides_44 (by decide) rfl (fun c30 => ?_) (fun c30 => ?_)
        · skip
          refine z_iconst C 95 dX9_overrides_94 rfl ?_
          refine z_as (st' := [.int (iI (bI (false)))]) rfl rfl rfl ?_
          exact z_iret C dX9_overrides_95 (bI_nar _) (Nat.le_of_ble_eq_true rfl) (Nat.le_of_ble_eq_true rfl) ⟨congrArg (fun b => some (Value.int (iI (bI b)))) (by clear C hκ hκl hS hB hB1 hB2 hB3 hB4 hB5 hB6 hC hw hX hs hT h81 h82 f1a f1b f1c f1d f2a f2b f2c f2d f21a f21b f21c f21d f21e f21f f21g f21h f21i f21j f21k f21l f22a f22b f22c f22d f22e f22f f22g f22h f22i f22j f22k f22l; first | (simp_all [ovB]; done) | (simp_all [ovB] <;> omega) | (grind [ovB]) | (simp [ovB] at * <;> omega)), rfl⟩
        · skip
          refine z_aload_n C 48 0 dX9_overrides_47 rfl rfl ?_
          refine z_callV (As := []) (rest := []) C hκ hκl 51 (k9_isMet hX hs hw hT (m) ⟨by omega, by omega⟩) dX9_overrides_48 q1217 q1033 q1034 q103 q1035 znX9_isMet (Nat.le_of_ble_eq_true rfl) (Nat.le_of_ble_eq_true rfl) (Nat.le_of_ble_eq_true rfl) (Nat.le_of_ble_eq_true rfl) (zrec_P (hX.mem (by omega) (by omega))) rfl rfl (Nat.le_of_ble_eq_true rfl) rfl (fun v9 Q9 h9 => ?_)
          obtain ⟨rfl, rfl⟩ := h9
          refine z_as (st' := [.int (iI (bI (!hasB w (m) 4 && !prB w (m))))]) rfl rfl rfl ?_
          refine z_ifB_eq C 94 54 dX9_overrides_51 (by decide) rfl (fun c31 => ?_) (fun c31 => ?_)
          · skip
            refine z_iconst C 95 dX9_overrides_94 rfl ?_
            refine z_as (st' := [.int (iI (bI (false)))]) rfl rfl rfl ?_
            exact z_iret C dX9_overrides_95 (bI_nar _) (Nat.le_of_ble_eq_true rfl) (Nat.le_of_ble_eq_true rfl) ⟨congrArg (fun b => some (Value.int (iI (bI b)))) (by clear C hκ hκl hS hB hB1 hB2 hB3 hB4 hB5 hB6 hC hw hX hs hT h81 h82 f1a f1b f1c f1d f2a f2b f2c f2d f21a f21b f21c f21d f21e f21f f21g f21h f21i f21j f21k f21l f22a f22b f22c f22d f22e f22f f22g f22h f22i f22j f22k f22l; first | (simp_all [ovB]; done) | (simp_all [ovB] <;> omega) | (grind [ovB]) | (simp [ovB] at * <;> omega)), rfl⟩
          · skip
            refine z_aload_n C 55 1 dX9_overrides_54 rfl rfl ?_
            refine z_callV (As := []) (rest := []) C hκ hκl 58 (k9_isMet hX hs hw hT (n) ⟨by omega, by omega⟩) dX9_overrides_55 q1217 q1033 q1034 q103 q1035 znX9_isMet (Nat.le_of_ble_eq_true rfl) (Nat.le_of_ble_eq_true rfl) (Nat.le_of_ble_eq_true rfl) (Nat.le_of_ble_eq_true rfl) (zrec_P (hX.mem (by omega) (by omega))) rfl rfl (Nat.le_of_ble_eq_true rfl) rfl (fun v9 Q9 h9 => ?_)
            obtain ⟨rfl, rfl⟩ := h9
            refine z_as (st' := [.int (iI (bI (!hasB w (n) 4 && !prB w (n))))]) rfl rfl rfl ?_
            refine z_ifB_eq C 94 61 dX9_overrides_58 (by decide) rfl (fun c32 => ?_) (fun c32 => ?_)
            · skip
              refine z_iconst C 95 dX9_overrides_94 rfl ?_
              refine z_as (st' := [.int (iI (bI (false)))]) rfl rfl rfl ?_
              exact z_iret C dX9_overrides_95 (bI_nar _) (Nat.le_of_ble_eq_true rfl) (Nat.le_of_ble_eq_true rfl) ⟨congrArg (fun b => some (Value.int (iI (bI b)))) (by clear C hκ hκl hS hB hB1 hB2 hB3 hB4 hB5 hB6 hC hw hX hs hT h81 h82 f1a f1b f1c f1d f2a f2b f2c f2d f21a f21b f21c f21d f21e f21f f21g f21h f21i f21j f21k f21l f22a f22b f22c f22d f22e f22f f22g f22h f22i f22j f22k f22l; first | (simp_all [ovB]; done) | (simp_all [ovB] <;> omega) | (grind [ovB]) | (simp [ovB] at * <;> omega)), rfl⟩
            · skip
              refine z_aload_n C 62 0 dX9_overrides_61 rfl rfl ?_
              refine z_getf C hκ (v := .ref (σ 10 (w 13 (m)))) 65 1 zk_X9 (hX.mem (by omega) (by omega)) (by decide) q656 (Or.inl rfl) rfl dX9_overrides_62 rfl ?_
              refine z_aload_n C 66 1 dX9_overrides_65 rfl rfl ?_
              refine z_getf C hκ (v := .ref (σ 10 (w 13 (n)))) 69 1 zk_X9 (hX.mem (by omega) (by omega)) (by decide) q656 (Or.inl rfl) rfl dX9_overrides_66 rfl ?_
              have c33i := xo_T hX (a := w 13 (m)) (b := w 13 (n)) (by omega) (by omega) (by omega) (by omega)
              refine z_acmp_eq C (xo σ 10 (w 13 (m))) (xo σ 10 (w 13 (n))) 94 72 dX9_overrides_69 (by decide) rfl (by rw [xo_y (by omega)]; rfl) (by rw [xo_y (by omega)]; rfl) (fun c33 => ?_) (fun c33 => ?_)
              · skip
                have c33b : w 13 (m) = w 13 (n) := c33i.mp c33; clear c33i
                refine z_iconst C 95 dX9_overrides_94 rfl ?_
                refine z_as (st' := [.int (iI (bI (false)))]) rfl rfl rfl ?_
                exact z_iret C dX9_overrides_95 (bI_nar _) (Nat.le_of_ble_eq_true rfl) (Nat.le_of_ble_eq_true rfl) ⟨congrArg (fun b => some (Value.int (iI (bI b)))) (by clear C hκ hκl hS hB hB1 hB2 hB3 hB4 hB5 hB6 hC hw hX hs hT h81 h82 f1a f1b f1c f1d f2a f2b f2c f2d f21a f21b f21c f21d f21e f21f f21g f21h f21i f21j f21k f21l f22a f22b f22c f22d f22e f22f f22g f22h f22i f22j f22k f22l; first | (simp_all [ovB]; done) | (simp_all [ovB] <;> omega) | (grind [ovB]) | (simp [ovB] at * <;> omega)), rfl⟩
              · skip
                have c33b : ¬ (w 13 (m) = w 13 (n)) := fun h9 => c33 (c33i.mpr h9); clear c33i
                refine z_aload_n C 73 0 dX9_overrides_72 rfl rfl ?_
                refine z_getf C hκ (v := .ref (σ 10 (w 13 (m)))) 76 1 zk_X9 (hX.mem (by omega) (by omega)) (by decide) q656 (Or.inl rfl) rfl dX9_overrides_73 rfl ?_
                refine z_aload_n C 77 1 dX9_overrides_76 rfl rfl ?_
                refine z_getf C hκ (v := .ref (σ 10 (w 13 (n)))) 80 1 zk_X9 (hX.mem (by omega) (by omega)) (by decide) q656 (Or.inl rfl) rfl dX9_overrides_77 rfl ?_
                refine xv_is (rest := []) C hκ hκl hX hs hw hT (w 13 (m)) (w 13 (n)) ⟨(by omega), (by omega)⟩ ⟨(by omega), (by omega)⟩ 83 dX9_overrides_80 q1218 (Nat.le_of_ble_eq_true rfl) (Nat.le_of_ble_eq_true rfl) (Nat.le_of_ble_eq_true rfl) (Nat.le_of_ble_eq_true rfl) (Nat.le_of_ble_eq_true rfl) rfl ?_
                refine z_as (st' := [.int (iI (bI (giB w (w 13 (m)) (w 13 (n)))))]) rfl rfl rfl ?_
                refine z_ifB_eq C 94 86 dX9_overrides_83 (by decide) rfl (fun c34 => ?_) (fun c34 => ?_)
                · skip
                  refine z_iconst C 95 dX9_overrides_94 rfl ?_
                  refine z_as (st' := [.int (iI (bI (false)))]) rfl rfl rfl ?_
                  exact z_iret C dX9_overrides_95 (bI_nar _) (Nat.le_of_ble_eq_true rfl) (Nat.le_of_ble_eq_true rfl) ⟨congrArg (fun b => some (Value.int (iI (bI b)))) (by clear C hκ hκl hS hB hB1 hB2 hB3 hB4 hB5 hB6 hC hw hX hs hT h81 h82 f1a f1b f1c f1d f2a f2b f2c f2d f21a f21b f21c f21d f21e f21f f21g f21h f21i f21j f21k f21l f22a f22b f22c f22d f22e f22f f22g f22h f22i f22j f22k f22l; first | (simp_all [ovB]; done) | (simp_all [ovB] <;> omega) | (grind [ovB]) | (simp [ovB] at * <;> omega)), rfl⟩
                · skip
                  refine z_iload_n C 87 2 dX9_overrides_86 rfl rfl ?_
                  refine z_if_eq C 94 90 dX9_overrides_87 (by decide) ⟨by decide, by decide⟩ rfl (fun c35 => absurd c35 (by decide)) (fun c35 => ?_)
                  refine z_iconst C 91 dX9_overrides_90 rfl ?_
                  refine z_goto C 95 dX9_overrides_91 (by decide) ?_
                  refine z_as (st' := [.int (iI (bI (true)))]) rfl rfl rfl ?_
                  exact z_iret C dX9_overrides_95 (bI_nar _) (Nat.le_of_ble_eq_true rfl) (Nat.le_of_ble_eq_true rfl) ⟨congrArg (fun b => some (Value.int (iI (bI b)))) (by clear C hκ hκl hS hB hB1 hB2 hB3 hB4 hB5 hB6 hC hw hX hs hT h81 h82 f1a f1b f1c f1d f2a f2b f2c f2d f21a f21b f21c f21d f21e f21f f21g f21h f21i f21j f21k f21l f22a f22b f22c f22d f22e f22f f22g f22h f22i f22j f22k f22l; first | (simp_all [ovB]; done) | (simp_all [ovB] <;> omega) | (grind [ovB]) | (simp [ovB] at * <;> omega)), rfl⟩
set_option maxRecDepth 100000 in
theorem k0_isClosed {l : Launch} {θ : zTh} {σ : xA} {w : mW} {M N : zMap} (hX : xM θ σ w (xL w) M) (hs : xS w) (hw : mWF w) (hT : zTb θ) (t : Int)  (ht : 0 ≤ t ∧ t < w 0 0) : ZM θ l yX0_isClosed cX0_isClosed 4 (some .boolean) ⟨247, 0, 0, 2530⟩ [.ref (σ 0 (0)), .ref (σ 10 (t))] (zP θ M N) (zFn (some (.int (iI (bI (ccB w t))))) (zP θ M N)) := by
  refine z_start (own := RX0) (nm := "isClosed") pnX0 rfl rfl (Nat.le_of_ble_eq_true rfl) ?_
  intro κ hκ hκl C
  change Z κ (zP θ M N) 0 0 0 [(0, .ref (σ 0 (0))), (1, .ref (σ 10 (t)))] []
  have hS := hs.S
  have hB := hS.B
  obtain ⟨hB1, hB2, hB3, hB4, hB5, hB6⟩ := hS.B
  have hC := hS.C
  obtain ⟨h81, h82⟩ := hs.r8
  refine z_iconst C 1 dX0_isClosed_0 rfl ?_
  refine z_istore_n (lv' := [(0, .ref (σ 0 (0))), (1, .ref (σ 10 (t))), (2, .int (iI (0)))]) C 2 [1, 2, 0] dX0_isClosed_1 (by decide) rfl rfl ?_
  refine z_iconst C 3 dX0_isClosed_2 rfl ?_
  refine z_istore_n (lv' := [(0, .ref (σ 0 (0))), (1, .ref (σ 10 (t))), (2, .int (iI (0))), (3, .int (iI (0)))]) C 4 [1, 2, 3, 0] dX0_isClosed_3 (by decide) rfl rfl ?_
  have L4_1 : ∀ (fu : Nat) (k : Nat) (hk : (k : Int) ≤ w 27 0) (hme : (w 27 0).toNat - k < fu), Z κ (zP θ M N) 0 0 4 [(0, .ref (σ 0 (0))), (1, .ref (σ 10 (t))), (2, .int (iI (bI (anyN (fun j => decide (w 29 j = -1) && isa w (w 28 j) t) k)))), (3, .int (iI ((k : Int))))] [] := by
    intro fu
    induction fu with
    | zero => intro k hk hme; exact absurd hme (Nat.not_lt_zero _)
    | succ fu ih2 =>
      intro k hk hme
      refine z_iload_n C 5 3 dX0_isClosed_4 rfl rfl ?_
      refine z_aload_n C 6 0 dX0_isClosed_5 rfl rfl ?_
      refine z_getf C hκ (v := .int (iI (w 27 0))) 9 6 zk_X0 hX.o (by decide) q333 (Or.inl rfl) rfl dX0_isClosed_6 rfl ?_
      refine z_icmp_ge C 54 12 dX0_isClosed_9 (by decide) ⟨by omega, by omega⟩ ⟨by omega, by omega⟩ rfl (fun c3 => ?_) (fun c3 => ?_)
      · skip
        refine z_iload_n C 55 2 dX0_isClosed_54 rfl rfl ?_
        exact z_iret C dX0_isClosed_55 (bI_nar _) (Nat.le_of_ble_eq_true rfl) (Nat.le_of_ble_eq_true rfl) ⟨congrArg (fun b => some (Value.int (iI (bI b)))) (by have e : k = (w 27 0).toNat := (by omega); subst e; rfl), rfl⟩
      · skip
        refine z_iload_n C 13 2 dX0_isClosed_12 rfl rfl ?_
        refine z_aload_n C 14 0 dX0_isClosed_13 rfl rfl ?_
        refine z_getf C hκ (v := .ref (σ 3 (0))) 17 5 zk_X0 hX.o (by decide) q332 (Or.inl rfl) rfl dX0_isClosed_14 rfl ?_
        refine z_iload_n C 18 3 dX0_isClosed_17 rfl rfl ?_
        refine x_aX C hκ 19 hX hs (by omega) (by omega) dX0_isClosed_18 rfl ?_
        obtain ⟨f4a, f4b, f4c⟩ := hS.X (show 0 ≤ (k : Int) by omega) (by omega)
        refine x_isOne C hκ hT 22 hX (by omega) (by omega) q556 dX0_isClosed_19 rfl ?_
        refine z_as (st' := [.int (iI (bI (decide (w 29 ((k : Int)) = -1)))), .int (iI (bI (anyN (fun j => decide (w 29 j = -1) && isa w (w 28 j) t) k)))]) rfl rfl rfl ?_
        refine z_ifB_eq C 45 25 dX0_isClosed_22 (by decide) rfl (fun c5 => ?_) (fun c5 => ?_)
        · skip
          have c5b : ¬ ((w 29 ((k : Int)) = -1)) := of_decide_eq_false c5
          refine z_iconst C 46 dX0_isClosed_45 rfl ?_
          refine z_ior C 47 dX0_isClosed_46 rfl ?_
          refine z_as (st' := [.int (iI (bI ((anyN (fun j => decide (w 29 j = -1) && isa w (w 28 j) t) k) || (false))))]) rfl rfl (congrArg (fun z9 => ([.int z9] : List Value)) (zor_b (anyN (fun j => decide (w 29 j = -1) && isa w (w 28 j) t) k) (false))) ?_
          refine z_istore_n (lv' := [(0, .ref (σ 0 (0))), (1, .ref (σ 10 (t))), (2, .int (iI (bI ((anyN (fun j => decide (w 29 j = -1) && isa w (w 28 j) t) k) || (false))))), (3, .int (iI ((k : Int))))]) C 48 [1, 2, 0, 3] dX0_isClosed_47 (by decide) rfl rfl ?_
          refine z_iinc (lv' := [(0, .ref (σ 0 (0))), (1, .ref (σ 10 (t))), (2, .int (iI (bI ((anyN (fun j => decide (w 29 j = -1) && isa w (w 28 j) t) k) || (false))))), (3, .int (iI (((k : Int)) + 1)))]) C 51 3 [1, 2, 3, 0] dX0_isClosed_48 rfl (by decide) rfl rfl ?_
          refine z_goto C 4 dX0_isClosed_51 (by decide) ?_
          have hg : giB w (w 28 k) t = isa w (w 28 k) t := gi_a8 hs (hS.X (show 0 ≤ (k : Int) by omega) (by omega)).1.1 (hS.X (show 0 ≤ (k : Int) by omega) (by omega)).1.2 ht.1 ht.2
          refine z_as (lv' := [(0, .ref (σ 0 (0))), (1, .ref (σ 10 (t))), (2, .int (iI (bI (anyN (fun j => decide (w 29 j = -1) && isa w (w 28 j) t) (k + 1))))), (3, .int (iI (((k + 1) : Int))))]) rfl (congrArg (fun z9 => ([(0, .ref (σ 0 (0))), (1, .ref (σ 10 (t))), (2, .int (iI (bI (z9)))), (3, .int (iI (((k : Int)) + 1)))] : List (Nat × Value))) (show ((anyN (fun j => decide (w 29 j = -1) && isa w (w 28 j) t) k) || (false)) = (anyN (fun j => decide (w 29 j = -1) && isa w (w 28 j) t) (k + 1)) from by clear C hκ hκl hS hB hB1 hB2 hB3 hB4 hB5 hB6 hC hw hX hs hT h81 h82 ih2 hme f4a f4b f4c; first | (simp_all [anyN]; done) | (simp_all [anyN] <;> omega) | (grind [anyN]) | (simp [anyN] at * <;> omega))) rfl ?_
          exact ih2 (k + 1) (by omega) (by omega)
        · skip
          have c5b : ((w 29 ((k : Int)) = -1)) := of_decide_eq_true c5
          refine z_aload_n C 26 0 dX0_isClosed_25 rfl rfl ?_
          refine z_getf C hκ (v := .ref (σ 3 (0))) 29 5 zk_X0 hX.o (by decide) q332 (Or.inl rfl) rfl dX0_isClosed_26 rfl ?_
          refine z_iload_n C 30 3 dX0_isClosed_29 rfl rfl ?_
          refine x_aX C hκ 31 hX hs (by omega) (by omega) dX0_isClosed_30 rfl ?_
          refine x_pget (v := .ref (σ 10 (w 28 ((k : Int))))) C hκ 34 1 hX (by omega) (by omega) (by decide) rfl q1274 (Or.inl rfl) rfl dX0_isClosed_31 rfl ?_
          refine z_aload_n C 35 1 dX0_isClosed_34 rfl rfl ?_
          obtain ⟨f6a, f6b, f6c, f6d, f6e, f6f, f6g, f6h⟩ := hS.T (show 0 ≤ w 28 ((k : Int)) by omega) (by omega)
          obtain ⟨f6i, f6j, f6k, f6l⟩ := hs.ty (show 0 ≤ w 28 ((k : Int)) by omega) (by omega)
          obtain ⟨f7a, f7b, f7c, f7d, f7e, f7f, f7g, f7h⟩ := hS.T (show 0 ≤ t by omega) (by omega)
          obtain ⟨f7i, f7j, f7k, f7l⟩ := hs.ty (show 0 ≤ t by omega) (by omega)
          refine xv_is (rest := [.int (iI (bI (anyN (fun j => decide (w 29 j = -1) && isa w (w 28 j) t) k)))]) C hκ hκl hX hs hw hT (w 28 ((k : Int))) (t) ⟨(by omega), (by omega)⟩ ⟨(by omega), (by omega)⟩ 38 dX0_isClosed_35 q557 (Nat.le_of_ble_eq_true rfl) (Nat.le_of_ble_eq_true rfl) (Nat.le_of_ble_eq_true rfl) (Nat.le_of_ble_eq_true rfl) (Nat.le_of_ble_eq_true rfl) rfl ?_
          refine z_as (st' := [.int (iI (bI (giB w (w 28 ((k : Int))) (t)))), .int (iI (bI (anyN (fun j => decide (w 29 j = -1) && isa w (w 28 j) t) k)))]) rfl rfl rfl ?_
          refine z_ifB_eq C 45 41 dX0_isClosed_38 (by decide) rfl (fun c8 => ?_) (fun c8 => ?_)
          · skip
            refine z_iconst C 46 dX0_isClosed_45 rfl ?_
            refine z_ior C 47 dX0_isClosed_46 rfl ?_
            refine z_as (st' := [.int (iI (bI ((anyN (fun j => decide (w 29 j = -1) && isa w (w 28 j) t) k) || (false))))]) rfl rfl (congrArg (fun z9 => ([.int z9] : List Value)) (zor_b (anyN (fun j => decide (w 29 j = -1) && isa w (w 28 j) t) k) (false))) ?_
            refine z_istore_n (lv' := [(0, .ref (σ 0 (0))), (1, .ref (σ 10 (t))), (2, .int (iI (bI ((anyN (fun j => decide (w 29 j = -1) && isa w (w 28 j) t) k) || (false))))), (3, .int (iI ((k : Int))))]) C 48 [1, 2, 0, 3] dX0_isClosed_47 (by decide) rfl rfl ?_
            refine z_iinc (lv' := [(0, .ref (σ 0 (0))), (1, .ref (σ 10 (t))), (2, .int (iI (bI ((anyN (fun j => decide (w 29 j = -1) && isa w (w 28 j) t) k) || (false))))), (3, .int (iI (((k : Int)) + 1)))]) C 51 3 [1, 2, 3, 0] dX0_isClosed_48 rfl (by decide) rfl rfl ?_
            refine z_goto C 4 dX0_isClosed_51 (by decide) ?_
            have hg : giB w (w 28 k) t = isa w (w 28 k) t := gi_a8 hs (hS.X (show 0 ≤ (k : Int) by omega) (by omega)).1.1 (hS.X (show 0 ≤ (k : Int) by omega) (by omega)).1.2 ht.1 ht.2
            refine z_as (lv' := [(0, .ref (σ 0 (0))), (1, .ref (σ 10 (t))), (2, .int (iI (bI (anyN (fun j => decide (w 29 j = -1) && isa w (w 28 j) t) (k + 1))))), (3, .int (iI (((k + 1) : Int))))]) rfl (congrArg (fun z9 => ([(0, .ref (σ 0 (0))), (1, .ref (σ 10 (t))), (2, .int (iI (bI (z9)))), (3, .int (iI (((k : Int)) + 1)))] : List (Nat × Value))) (show ((anyN (fun j => decide (w 29 j = -1) && isa w (w 28 j) t) k) || (false)) = (anyN (fun j => decide (w 29 j = -1) && isa w (w 28 j) t) (k + 1)) from by clear C hκ hκl hS hB hB1 hB2 hB3 hB4 hB5 hB6 hC hw hX hs hT h81 h82 ih2 hme f4a f4b f4c f6a f6b f6c f6d f6e f6f f6g f6h f6i f6j f6k f6l f7a f7b f7c f7d f7e f7f f7g f7h f7i f7j f7k f7l; first | (simp_all [anyN]; done) | (simp_all [anyN] <;> omega) | (grind [anyN]) | (simp [anyN] at * <;> omega))) rfl ?_
            exact ih2 (k + 1) (by omega) (by omega)
          · skip
            refine z_iconst C 42 dX0_isClosed_41 rfl ?_
            refine z_goto C 46 dX0_isClosed_42 (by decide) ?_
            refine z_ior C 47 dX0_isClosed_46 rfl ?_
            refine z_as (st' := [.int (iI (bI ((anyN (fun j => decide (w 29 j = -1) && isa w (w 28 j) t) k) || (true))))]) rfl rfl (congrArg (fun z9 => ([.int z9] : List Value)) (zor_b (anyN (fun j => decide (w 29 j = -1) && isa w (w 28 j) t) k) (true))) ?_
            refine z_istore_n (lv' := [(0, .ref (σ 0 (0))), (1, .ref (σ 10 (t))), (2, .int (iI (bI ((anyN (fun j => decide (w 29 j = -1) && isa w (w 28 j) t) k) || (true))))), (3, .int (iI ((k : Int))))]) C 48 [1, 2, 0, 3] dX0_isClosed_47 (by decide) rfl rfl ?_
            refine z_iinc (lv' := [(0, .ref (σ 0 (0))), (1, .ref (σ 10 (t))), (2, .int (iI (bI ((anyN (fun j => decide (w 29 j = -1) && isa w (w 28 j) t) k) || (true))))), (3, .int (iI (((k : Int)) + 1)))]) C 51 3 [1, 2, 3, 0] dX0_isClosed_48 rfl (by decide) rfl rfl ?_
            refine z_goto C 4 dX0_isClosed_51 (by decide) ?_
            have hg : giB w (w 28 k) t = isa w (w 28 k) t := gi_a8 hs (hS.X (show 0 ≤ (k : Int) by omega) (by omega)).1.1 (hS.X (show 0 ≤ (k : Int) by omega) (by omega)).1.2 ht.1 ht.2
            refine z_as (lv' := [(0, .ref (σ 0 (0))), (1, .ref (σ 10 (t))), (2, .int (iI (bI (anyN (fun j => decide (w 29 j = -1) && isa w (w 28 j) t) (k + 1))))), (3, .int (iI (((k + 1) : Int))))]) rfl (congrArg (fun z9 => ([(0, .ref (σ 0 (0))), (1, .ref (σ 10 (t))), (2, .int (iI (bI (z9)))), (3, .int (iI (((k : Int)) + 1)))] : List (Nat × Value))) (show ((anyN (fun j => decide (w 29 j = -1) && isa w (w 28 j) t) k) || (true)) = (anyN (fun j => decide (w 29 j = -1) && isa w (w 28 j) t) (k + 1)) from by clear C hκ hκl hS hB hB1 hB2 hB3 hB4 hB5 hB6 hC hw hX hs hT h81 h82 ih2 hme f4a f4b f4c f6a f6b f6c f6d f6e f6f f6g f6h f6i f6j f6k f6l f7a f7b f7c f7d f7e f7f f7g f7h f7i f7j f7k f7l; first | (simp_all [anyN]; done) | (simp_all [anyN] <;> omega) | (grind [anyN]) | (simp [anyN] at * <;> omega))) rfl ?_
            exact ih2 (k + 1) (by omega) (by omega)
  refine z_as (lv' := [(0, .ref (σ 0 (0))), (1, .ref (σ 10 (t))), (2, .int (iI (bI (anyN (fun j => decide (w 29 j = -1) && isa w (w 28 j) t) (0))))), (3, .int (iI (((0) : Int))))]) rfl rfl rfl ?_
  exact L4_1 _ (0) (by omega) (Nat.lt_succ_self _)
set_option maxRecDepth 100000 in
theorem k0_canBe {l : Launch} {θ : zTh} {σ : xA} {w : mW} {Lf : Int → List Int} {M N : zMap} (hX : xM θ σ w (Lf) M) (hs : xS w) (hw : mWF w) (hT : zTb θ) (t : Int) (k : Int) (r_k : inR k) (ht : 0 ≤ t ∧ t < w 0 0) : ZM θ l yX0_canBe cX0_canBe 4 (some .boolean) ⟨1, 0, 0, 20⟩ [.ref (σ 10 (t)), .int (iI (k))] (zP θ M N) (zFn (some (.int (iI (bI (mbeC w t k))))) (zP θ M N)) := by
  refine z_start (own := RX0) (nm := "canBe") pnX0 rfl rfl (Nat.le_of_ble_eq_true rfl) ?_
  intro κ hκ hκl C
  change Z κ (zP θ M N) 0 0 0 [(0, .ref (σ 10 (t))), (1, .int (iI (k)))] []
  have hS := hs.S
  have hB := hS.B
  obtain ⟨hB1, hB2, hB3, hB4, hB5, hB6⟩ := hS.B
  have hC := hS.C
  obtain ⟨h81, h82⟩ := hs.r8
  refine z_iload_n C 1 1 dX0_canBe_0 rfl rfl ?_
  refine z_bipush C 3 dX0_canBe_1 (by decide) rfl ?_
  refine z_iand C 4 dX0_canBe_3 rfl ?_
  refine z_if_eq C 11 7 dX0_canBe_4 (by decide) (inR_zand _ _) rfl (fun c1 => ?_) (fun c1 => ?_)
  · skip
    refine z_iconst C 12 dX0_canBe_11 rfl ?_
    refine z_istore_n (lv' := [(0, .ref (σ 10 (t))), (1, .int (iI (k))), (2, .int (iI (0)))]) C 13 [1, 2, 0] dX0_canBe_12 (by decide) rfl rfl ?_
    refine z_iload_n C 14 1 dX0_canBe_13 rfl rfl ?_
    refine z_iconst C 15 dX0_canBe_14 rfl ?_
    refine z_iand C 16 dX0_canBe_15 rfl ?_
    refine z_istore_n (lv' := [(0, .ref (σ 10 (t))), (1, .int (iI (k))), (2, .int (iI (0))), (3, .int (iI (zand (k) (3))))]) C 17 [1, 2, 3, 0] dX0_canBe_16 (by decide) rfl rfl ?_
    refine z_iload_n C 18 2 dX0_canBe_17 rfl rfl ?_
    refine z_if_eq C 43 21 dX0_canBe_18 (by decide) ⟨by decide, by decide⟩ rfl (fun c2 => ?_) (fun c2 => absurd c2 (by decide))
    refine z_aload_n C 44 0 dX0_canBe_43 rfl rfl ?_
    obtain ⟨f3a, f3b, f3c, f3d, f3e, f3f, f3g, f3h⟩ := hS.T (show 0 ≤ t by omega) (by omega)
    obtain ⟨f3i, f3j, f3k, f3l⟩ := hs.ty (show 0 ≤ t by omega) (by omega)
    refine xv_isClass (rest := []) C hκ hκl hX hs hw hT (t)   ⟨(by omega), (by omega)⟩  47 dX0_canBe_44 q381 (Nat.le_of_ble_eq_true rfl) (Nat.le_of_ble_eq_true rfl) (Nat.le_of_ble_eq_true rfl) (Nat.le_of_ble_eq_true rfl) (Nat.le_of_ble_eq_true rfl) rfl ?_
    refine z_as (st' := [.int (iI (bI (clB w (t))))]) rfl rfl rfl ?_
    refine z_ifB_ne C 67 50 dX0_canBe_47 (by decide) rfl (fun c4 => ?_) (fun c4 => ?_)
    · skip
      have c4b : (0 ≤ (t) ∧ (t) < w 0 0 ∧ (w 1 (t) = 1 ∨ w 1 (t) = 2)) := of_decide_eq_true c4
      refine z_iconst C 68 dX0_canBe_67 rfl ?_
      refine z_goto C 72 dX0_canBe_68 (by decide) ?_
      refine z_as (st' := [.int (iI (bI (true)))]) rfl rfl rfl ?_
      exact z_iret C dX0_canBe_72 (bI_nar _) (Nat.le_of_ble_eq_true rfl) (Nat.le_of_ble_eq_true rfl) ⟨congrArg (fun b => some (Value.int (iI (bI b)))) (by clear C hκ hκl hS hB hB1 hB2 hB3 hB4 hB5 hB6 hC hw hX hs hT h81 h82 f3a f3b f3c f3d f3e f3f f3g f3h f3i f3j f3k f3l; first | (simp_all [mbeC, clB]; done) | (simp_all [mbeC, clB] <;> omega) | (grind [mbeC, clB]) | (simp [mbeC, clB] at * <;> omega)), rfl⟩
    · skip
      have c4b : ¬ (0 ≤ (t) ∧ (t) < w 0 0 ∧ (w 1 (t) = 1 ∨ w 1 (t) = 2)) := of_decide_eq_false c4
      refine z_iload_n C 51 3 dX0_canBe_50 rfl rfl ?_
      refine z_iconst C 52 dX0_canBe_51 rfl ?_
      refine z_icmp_eq C 60 55 dX0_canBe_52 (by decide) (inR_zand _ _) ⟨by decide, by decide⟩ rfl (fun c5 => ?_) (fun c5 => ?_)
      · skip
        refine z_iload_n C 61 1 dX0_canBe_60 rfl rfl ?_
        refine z_bipush C 63 dX0_canBe_61 (by decide) rfl ?_
        refine z_iand C 64 dX0_canBe_63 rfl ?_
        refine z_if_ne C 71 67 dX0_canBe_64 (by decide) (inR_zand _ _) rfl (fun c6 => ?_) (fun c6 => ?_)
        · skip
          refine z_iconst C 72 dX0_canBe_71 rfl ?_
          refine z_as (st' := [.int (iI (bI (false)))]) rfl rfl rfl ?_
          exact z_iret C dX0_canBe_72 (bI_nar _) (Nat.le_of_ble_eq_true rfl) (Nat.le_of_ble_eq_true rfl) ⟨congrArg (fun b => some (Value.int (iI (bI b)))) (by clear C hκ hκl hS hB hB1 hB2 hB3 hB4 hB5 hB6 hC hw hX hs hT h81 h82 f3a f3b f3c f3d f3e f3f f3g f3h f3i f3j f3k f3l; first | (simp_all [mbeC, clB]; done) | (simp_all [mbeC, clB] <;> omega) | (grind [mbeC, clB]) | (simp [mbeC, clB] at * <;> omega)), rfl⟩
        · skip
          refine z_iconst C 68 dX0_canBe_67 rfl ?_
          refine z_goto C 72 dX0_canBe_68 (by decide) ?_
          refine z_as (st' := [.int (iI (bI (true)))]) rfl rfl rfl ?_
          exact z_iret C dX0_canBe_72 (bI_nar _) (Nat.le_of_ble_eq_true rfl) (Nat.le_of_ble_eq_true rfl) ⟨congrArg (fun b => some (Value.int (iI (bI b)))) (by clear C hκ hκl hS hB hB1 hB2 hB3 hB4 hB5 hB6 hC hw hX hs hT h81 h82 f3a f3b f3c f3d f3e f3f f3g f3h f3i f3j f3k f3l; first | (simp_all [mbeC, clB]; done) | (simp_all [mbeC, clB] <;> omega) | (grind [mbeC, clB]) | (simp [mbeC, clB] at * <;> omega)), rfl⟩
      · skip
        refine z_iload_n C 56 3 dX0_canBe_55 rfl rfl ?_
        refine z_iconst C 57 dX0_canBe_56 rfl ?_
        refine z_icmp_ne C 71 60 dX0_canBe_57 (by decide) (inR_zand _ _) ⟨by decide, by decide⟩ rfl (fun c7 => ?_) (fun c7 => ?_)
        · skip
          refine z_iconst C 72 dX0_canBe_71 rfl ?_
          refine z_as (st' := [.int (iI (bI (false)))]) rfl rfl rfl ?_
          exact z_iret C dX0_canBe_72 (bI_nar _) (Nat.le_of_ble_eq_true rfl) (Nat.le_of_ble_eq_true rfl) ⟨congrArg (fun b => some (Value.int (iI (bI b)))) (by clear C hκ hκl hS hB hB1 hB2 hB3 hB4 hB5 hB6 hC hw hX hs hT h81 h82 f3a f3b f3c f3d f3e f3f f3g f3h f3i f3j f3k f3l; first | (simp_all [mbeC, clB]; done) | (simp_all [mbeC, clB] <;> omega) | (grind [mbeC, clB]) | (simp [mbeC, clB] at * <;> omega)), rfl⟩
        · skip
          refine z_iload_n C 61 1 dX0_canBe_60 rfl rfl ?_
          refine z_bipush C 63 dX0_canBe_61 (by decide) rfl ?_
          refine z_iand C 64 dX0_canBe_63 rfl ?_
          refine z_if_ne C 71 67 dX0_canBe_64 (by decide) (inR_zand _ _) rfl (fun c8 => ?_) (fun c8 => ?_)
          · skip
            refine z_iconst C 72 dX0_canBe_71 rfl ?_
            refine z_as (st' := [.int (iI (bI (false)))]) rfl rfl rfl ?_
            exact z_iret C dX0_canBe_72 (bI_nar _) (Nat.le_of_ble_eq_true rfl) (Nat.le_of_ble_eq_true rfl) ⟨congrArg (fun b => some (Value.int (iI (bI b)))) (by clear C hκ hκl hS hB hB1 hB2 hB3 hB4 hB5 hB6 hC hw hX hs hT h81 h82 f3a f3b f3c f3d f3e f3f f3g f3h f3i f3j f3k f3l; first | (simp_all [mbeC, clB]; done) | (simp_all [mbeC, clB] <;> omega) | (grind [mbeC, clB]) | (simp [mbeC, clB] at * <;> omega)), rfl⟩
          · skip
            refine z_iconst C 68 dX0_canBe_67 rfl ?_
            refine z_goto C 72 dX0_canBe_68 (by decide) ?_
            refine z_as (st' := [.int (iI (bI (true)))]) rfl rfl rfl ?_
            exact z_iret C dX0_canBe_72 (bI_nar _) (Nat.le_of_ble_eq_true rfl) (Nat.le_of_ble_eq_true rfl) ⟨congrArg (fun b => some (Value.int (iI (bI b)))) (by clear C hκ hκl hS hB hB1 hB2 hB3 hB4 hB5 hB6 hC hw hX hs hT h81 h82 f3a f3b f3c f3d f3e f3f f3g f3h f3i f3j f3k f3l; first | (simp_all [mbeC, clB]; done) | (simp_all [mbeC, clB] <;> omega) | (grind [mbeC, clB]) | (simp [mbeC, clB] at * <;> omega)), rfl⟩
  · skip
    refine z_iconst C 8 dX0_canBe_7 rfl ?_
    refine z_goto C 12 dX0_canBe_8 (by decide) ?_
    refine z_istore_n (lv' := [(0, .ref (σ 10 (t))), (1, .int (iI (k))), (2, .int (iI (1)))]) C 13 [1, 2, 0] dX0_canBe_12 (by decide) rfl rfl ?_
    refine z_iload_n C 14 1 dX0_canBe_13 rfl rfl ?_
    refine z_iconst C 15 dX0_canBe_14 rfl ?_
    refine z_iand C 16 dX0_canBe_15 rfl ?_
    refine z_istore_n (lv' := [(0, .ref (σ 10 (t))), (1, .int (iI (k))), (2, .int (iI (1))), (3, .int (iI (zand (k) (3))))]) C 17 [1, 2, 3, 0] dX0_canBe_16 (by decide) rfl rfl ?_
    refine z_iload_n C 18 2 dX0_canBe_17 rfl rfl ?_
    refine z_if_eq C 43 21 dX0_canBe_18 (by decide) ⟨by decide, by decide⟩ rfl (fun c9 => absurd c9 (by decide)) (fun c9 => ?_)
    refine z_iload_n C 22 1 dX0_canBe_21 rfl rfl ?_
    refine z_bipush C 24 dX0_canBe_22 (by decide) rfl ?_
    refine z_iand C 25 dX0_canBe_24 rfl ?_
    refine z_if_ne C 41 28 dX0_canBe_25 (by decide) (inR_zand _ _) rfl (fun c10 => ?_) (fun c10 => ?_)
    · skip
      refine z_iconst C 42 dX0_canBe_41 rfl ?_
      refine z_as (st' := [.int (iI (bI (false)))]) rfl rfl rfl ?_
      exact z_iret C dX0_canBe_42 (bI_nar _) (Nat.le_of_ble_eq_true rfl) (Nat.le_of_ble_eq_true rfl) ⟨congrArg (fun b => some (Value.int (iI (bI b)))) (by clear C hκ hκl hS hB hB1 hB2 hB3 hB4 hB5 hB6 hC hw hX hs hT h81 h82; first | (simp_all [mbeC, clB]; done) | (simp_all [mbeC, clB] <;> omega) | (grind [mbeC, clB]) | (simp [mbeC, clB] at * <;> omega)), rfl⟩
    · skip
      refine z_iload_n C 29 3 dX0_canBe_28 rfl rfl ?_
      refine z_iconst C 30 dX0_canBe_29 rfl ?_
      refine z_icmp_eq C 41 33 dX0_canBe_30 (by decide) (inR_zand _ _) ⟨by decide, by decide⟩ rfl (fun c11 => ?_) (fun c11 => ?_)
      · skip
        refine z_iconst C 42 dX0_canBe_41 rfl ?_
        refine z_as (st' := [.int (iI (bI (false)))]) rfl rfl rfl ?_
        exact z_iret C dX0_canBe_42 (bI_nar _) (Nat.le_of_ble_eq_true rfl) (Nat.le_of_ble_eq_true rfl) ⟨congrArg (fun b => some (Value.int (iI (bI b)))) (by clear C hκ hκl hS hB hB1 hB2 hB3 hB4 hB5 hB6 hC hw hX hs hT h81 h82; first | (simp_all [mbeC, clB]; done) | (simp_all [mbeC, clB] <;> omega) | (grind [mbeC, clB]) | (simp [mbeC, clB] at * <;> omega)), rfl⟩
      · skip
        refine z_aload_n C 34 0 dX0_canBe_33 rfl rfl ?_
        obtain ⟨f12a, f12b, f12c, f12d, f12e, f12f, f12g, f12h⟩ := hS.T (show 0 ≤ t by omega) (by omega)
        obtain ⟨f12i, f12j, f12k, f12l⟩ := hs.ty (show 0 ≤ t by omega) (by omega)
        refine xv_what (rest := []) C hκ hκl hX hs hw hT (t)   ⟨(by omega), (by omega)⟩  37 dX0_canBe_34 q459 (Nat.le_of_ble_eq_true rfl) (Nat.le_of_ble_eq_true rfl) (Nat.le_of_ble_eq_true rfl) (Nat.le_of_ble_eq_true rfl) (Nat.le_of_ble_eq_true rfl) rfl ?_
        refine z_as (st' := [.int (iI (w 1 (t)))]) rfl rfl rfl ?_
        refine z_iconst C 38 dX0_canBe_37 rfl ?_
        refine z_icmp_ne C 43 41 dX0_canBe_38 (by decide) (hw.r _ _ rfl) ⟨by decide, by decide⟩ rfl (fun c13 => ?_) (fun c13 => ?_)
        · skip
          refine z_aload_n C 44 0 dX0_canBe_43 rfl rfl ?_
          refine xv_isClass (rest := []) C hκ hκl hX hs hw hT (t)   ⟨(by omega), (by omega)⟩  47 dX0_canBe_44 q381 (Nat.le_of_ble_eq_true rfl) (Nat.le_of_ble_eq_true rfl) (Nat.le_of_ble_eq_true rfl) (Nat.le_of_ble_eq_true rfl) (Nat.le_of_ble_eq_true rfl) rfl ?_
          refine z_as (st' := [.int (iI (bI (clB w (t))))]) rfl rfl rfl ?_
          refine z_ifB_ne C 67 50 dX0_canBe_47 (by decide) rfl (fun c14 => ?_) (fun c14 => ?_)
          · skip
            have c14b : (0 ≤ (t) ∧ (t) < w 0 0 ∧ (w 1 (t) = 1 ∨ w 1 (t) = 2)) := of_decide_eq_true c14
            refine z_iconst C 68 dX0_canBe_67 rfl ?_
            refine z_goto C 72 dX0_canBe_68 (by decide) ?_
            refine z_as (st' := [.int (iI (bI (true)))]) rfl rfl rfl ?_
            exact z_iret C dX0_canBe_72 (bI_nar _) (Nat.le_of_ble_eq_true rfl) (Nat.le_of_ble_eq_true rfl) ⟨congrArg (fun b => some (Value.int (iI (bI b)))) (by clear C hκ hκl hS hB hB1 hB2 hB3 hB4 hB5 hB6 hC hw hX hs hT h81 h82 f12a f12b f12c f12d f12e f12f f12g f12h f12i f12j f12k f12l; first | (simp_all [mbeC, clB]; done) | (simp_all [mbeC, clB] <;> omega) | (grind [mbeC, clB]) | (simp [mbeC, clB] at * <;> omega)), rfl⟩
          · skip
            have c14b : ¬ (0 ≤ (t) ∧ (t) < w 0 0 ∧ (w 1 (t) = 1 ∨ w 1 (t) = 2)) := of_decide_eq_false c14
            refine z_iload_n C 51 3 dX0_canBe_50 rfl rfl ?_
            refine z_iconst C 52 dX0_canBe_51 rfl ?_
            refine z_icmp_eq C 60 55 dX0_canBe_52 (by decide) (inR_zand _ _) ⟨by decide, by decide⟩ rfl (fun c15 => ?_) (fun c15 => ?_)
            · skip
              refine z_iload_n C 61 1 dX0_canBe_60 rfl rfl ?_
              refine z_bipush C 63 dX0_canBe_61 (by decide) rfl ?_
              refine z_iand C 64 dX0_canBe_63 rfl ?_
              refine z_if_ne C 71 67 dX0_canBe_64 (by decide) (inR_zand _ _) rfl (fun c16 => ?_) (fun c16 => ?_)
              · skip
                refine z_iconst C 72 dX0_canBe_71 rfl ?_
                refine z_as (st' := [.int (iI (bI (false)))]) rfl rfl rfl ?_
                exact z_iret C dX0_canBe_72 (bI_nar _) (Nat.le_of_ble_eq_true rfl) (Nat.le_of_ble_eq_true rfl) ⟨congrArg (fun b => some (Value.int (iI (bI b)))) (by clear C hκ hκl hS hB hB1 hB2 hB3 hB4 hB5 hB6 hC hw hX hs hT h81 h82 f12a f12b f12c f12d f12e f12f f12g f12h f12i f12j f12k f12l; first | (simp_all [mbeC, clB]; done) | (simp_all [mbeC, clB] <;> omega) | (grind [mbeC, clB]) | (simp [mbeC, clB] at * <;> omega)), rfl⟩
              · skip
                refine z_iconst C 68 dX0_canBe_67 rfl ?_
                refine z_goto C 72 dX0_canBe_68 (by decide) ?_
                refine z_as (st' := [.int (iI (bI (true)))]) rfl rfl rfl ?_
                exact z_iret C dX0_canBe_72 (bI_nar _) (Nat.le_of_ble_eq_true rfl) (Nat.le_of_ble_eq_true rfl) ⟨congrArg (fun b => some (Value.int (iI (bI b)))) (by clear C hκ hκl hS hB hB1 hB2 hB3 hB4 hB5 hB6 hC hw hX hs hT h81 h82 f12a f12b f12c f12d f12e f12f f12g f12h f12i f12j f12k f12l; first | (simp_all [mbeC, clB]; done) | (simp_all [mbeC, clB] <;> omega) | (grind [mbeC, clB]) | (simp [mbeC, clB] at * <;> omega)), rfl⟩
            · skip
              refine z_iload_n C 56 3 dX0_canBe_55 rfl rfl ?_
              refine z_iconst C 57 dX0_canBe_56 rfl ?_
              refine z_icmp_ne C 71 60 dX0_canBe_57 (by decide) (inR_zand _ _) ⟨by decide, by decide⟩ rfl (fun c17 => ?_) (fun c17 => ?_)
              · skip
                refine z_iconst C 72 dX0_canBe_71 rfl ?_
                refine z_as (st' := [.int (iI (bI (false)))]) rfl rfl rfl ?_
                exact z_iret C dX0_canBe_72 (bI_nar _) (Nat.le_of_ble_eq_true rfl) (Nat.le_of_ble_eq_true rfl) ⟨congrArg (fun b => some (Value.int (iI (bI b)))) (by clear C hκ hκl hS hB hB1 hB2 hB3 hB4 hB5 hB6 hC hw hX hs hT h81 h82 f12a f12b f12c f12d f12e f12f f12g f12h f12i f12j f12k f12l; first | (simp_all [mbeC, clB]; done) | (simp_all [mbeC, clB] <;> omega) | (grind [mbeC, clB]) | (simp [mbeC, clB] at * <;> omega)), rfl⟩
              · skip
                refine z_iload_n C 61 1 dX0_canBe_60 rfl rfl ?_
                refine z_bipush C 63 dX0_canBe_61 (by decide) rfl ?_
                refine z_iand C 64 dX0_canBe_63 rfl ?_
                refine z_if_ne C 71 67 dX0_canBe_64 (by decide) (inR_zand _ _) rfl (fun c18 => ?_) (fun c18 => ?_)
                · skip
                  refine z_iconst C 72 dX0_canBe_71 rfl ?_
                  refine z_as (st' := [.int (iI (bI (false)))]) rfl rfl rfl ?_
                  exact z_iret C dX0_canBe_72 (bI_nar _) (Nat.le_of_ble_eq_true rfl) (Nat.le_of_ble_eq_true rfl) ⟨congrArg (fun b => some (Value.int (iI (bI b)))) (by clear C hκ hκl hS hB hB1 hB2 hB3 hB4 hB5 hB6 hC hw hX hs hT h81 h82 f12a f12b f12c f12d f12e f12f f12g f12h f12i f12j f12k f12l; first | (simp_all [mbeC, clB]; done) | (simp_all [mbeC, clB] <;> omega) | (grind [mbeC, clB]) | (simp [mbeC, clB] at * <;> omega)), rfl⟩
                · skip
                  refine z_iconst C 68 dX0_canBe_67 rfl ?_
                  refine z_goto C 72 dX0_canBe_68 (by decide) ?_
                  refine z_as (st' := [.int (iI (bI (true)))]) rfl rfl rfl ?_
                  exact z_iret C dX0_canBe_72 (bI_nar _) (Nat.le_of_ble_eq_true rfl) (Nat.le_of_ble_eq_true rfl) ⟨congrArg (fun b => some (Value.int (iI (bI b)))) (by clear C hκ hκl hS hB hB1 hB2 hB3 hB4 hB5 hB6 hC hw hX hs hT h81 h82 f12a f12b f12c f12d f12e f12f f12g f12h f12i f12j f12k f12l; first | (simp_all [mbeC, clB]; done) | (simp_all [mbeC, clB] <;> omega) | (grind [mbeC, clB]) | (simp [mbeC, clB] at * <;> omega)), rfl⟩
        · skip
          refine z_iconst C 42 dX0_canBe_41 rfl ?_
          refine z_as (st' := [.int (iI (bI (false)))]) rfl rfl rfl ?_
          exact z_iret C dX0_canBe_42 (bI_nar _) (Nat.le_of_ble_eq_true rfl) (Nat.le_of_ble_eq_true rfl) ⟨congrArg (fun b => some (Value.int (iI (bI b)))) (by clear C hκ hκl hS hB hB1 hB2 hB3 hB4 hB5 hB6 hC hw hX hs hT h81 h82 f12a f12b f12c f12d f12e f12f f12g f12h f12i f12j f12k f12l; first | (simp_all [mbeC, clB]; done) | (simp_all [mbeC, clB] <;> omega) | (grind [mbeC, clB]) | (simp [mbeC, clB] at * <;> omega)), rfl⟩
set_option maxRecDepth 100000 in
theorem k0_mayBe {l : Launch} {θ : zTh} {σ : xA} {w : mW} {M N : zMap} (hX : xM θ σ w (xL w) M) (hs : xS w) (hw : mWF w) (hT : zTb θ) (m : Int) (x : Int)  (hm : 0 ≤ m ∧ m < w 11 0) (hx : -1 ≤ x ∧ x < w 27 0) : ZM θ l yX0_mayBe cX0_mayBe 5 (some .boolean) ⟨247, 0, 0, 2530⟩ [.ref (σ 0 (0)), .ref (σ 20 (m)), va_rf (xo σ 30 (x))] (zP θ M N) (zFn (some (.int (iI (bI (mcB w m x))))) (zP θ M N)) := by
  refine z_start (own := RX0) (nm := "mayBe") pnX0 rfl rfl (by cases (xo σ 30 (x)) <;> exact Nat.le_of_ble_eq_true rfl) ?_
  intro κ hκ hκl C
  refine z_as (lv' := [(0, .ref (σ 0 (0))), (1, .ref (σ 20 (m))), (2, va_rf (xo σ 30 (x)))]) rfl (by cases (xo σ 30 (x)) <;> rfl) rfl ?_
  change Z κ (zP θ M N) 0 0 0 [(0, .ref (σ 0 (0))), (1, .ref (σ 20 (m))), (2, va_rf (xo σ 30 (x)))] []
  have hS := hs.S
  have hB := hS.B
  obtain ⟨hB1, hB2, hB3, hB4, hB5, hB6⟩ := hS.B
  have hC := hS.C
  obtain ⟨h81, h82⟩ := hs.r8
  obtain ⟨f1a, f1b, f1c, f1d⟩ := hS.M (show 0 ≤ m by omega) (by omega)
  have hg : giB w (w 34 0) (w 13 m) = isa w (w 34 0) (w 13 m) := gi_88 (by omega) (by omega)
  have hg2 : 0 ≤ x → giB w (w 28 x) (w 34 0) = isa w (w 28 x) (w 34 0) := fun h => gi_88 (hS.X h hx.2).1.1 (by omega)
  refine z_aload_n C 1 1 dX0_mayBe_0 rfl rfl ?_
  refine z_getf C hκ (v := .ref (σ 10 (w 13 (m)))) 4 1 zk_X9 (hX.mem (by omega) (by omega)) (by decide) q657 (Or.inl rfl) rfl dX0_mayBe_1 rfl ?_
  refine z_astore_n (lv' := [(0, .ref (σ 0 (0))), (1, .ref (σ 20 (m))), (2, va_rf (xo σ 30 (x))), (3, .ref (σ 10 (w 13 (m))))]) C 5 [1, 2, 3, 0] dX0_mayBe_4 (by decide) (by cases (xo σ 30 (x)) <;> rfl) rfl ?_
  refine z_aload_n C 6 1 dX0_mayBe_5 rfl rfl ?_
  refine z_getf C hκ (v := .int (iI (bI (mb w 20 (m))))) 9 8 zk_X9 (hX.mem (by omega) (by omega)) (by decide) q681 (Or.inl rfl) rfl dX0_mayBe_6 rfl ?_
  refine z_ifB_ne C 28 12 dX0_mayBe_9 (by decide) rfl (fun c2 => ?_) (fun c2 => ?_)
  · skip
    have c2b : (w 20 (m) = 1) := of_decide_eq_true c2
    refine z_iconst C 29 dX0_mayBe_28 rfl ?_
    refine z_as (st' := [.int (iI (bI (true)))]) rfl rfl rfl ?_
    exact z_iret C dX0_mayBe_29 (bI_nar _) (Nat.le_of_ble_eq_true rfl) (Nat.le_of_ble_eq_true rfl) ⟨congrArg (fun b => some (Value.int (iI (bI b)))) (by clear C hκ hκl hS hB hB1 hB2 hB3 hB4 hB5 hB6 hC hw hX hs hT h81 h82 f1a f1b f1c f1d; first | (simp_all [mcB]; done) | (simp_all [mcB] <;> omega) | (grind [mcB]) | (simp [mcB] at * <;> omega)), rfl⟩
  · skip
    have c2b : ¬ (w 20 (m) = 1) := of_decide_eq_false c2
    refine z_aload_n C 13 1 dX0_mayBe_12 rfl rfl ?_
    refine z_callV (As := []) (rest := []) C hκ hκl 16 (k9_who hX hs hw hT (m) ⟨by omega, by omega⟩) dX0_mayBe_13 q1228 q955 q956 q103 q957 znX9_who (Nat.le_of_ble_eq_true rfl) (Nat.le_of_ble_eq_true rfl) (Nat.le_of_ble_eq_true rfl) (Nat.le_of_ble_eq_true rfl) (zrec_P (hX.mem (by omega) (by omega))) rfl rfl (Nat.le_of_ble_eq_true rfl) rfl (fun v9 Q9 h9 => ?_)
    obtain ⟨rfl, rfl⟩ := h9
    refine z_as (st' := [.int (iI (whoI w (m)))]) rfl rfl rfl ?_
    refine z_iconst C 17 dX0_mayBe_16 rfl ?_
    refine z_icmp_eq C 28 20 dX0_mayBe_17 (by decide) (inR_zand _ _) ⟨by decide, by decide⟩ rfl (fun c3 => ?_) (fun c3 => ?_)
    · skip
      refine z_iconst C 29 dX0_mayBe_28 rfl ?_
      refine z_as (st' := [.int (iI (bI (true)))]) rfl rfl rfl ?_
      exact z_iret C dX0_mayBe_29 (bI_nar _) (Nat.le_of_ble_eq_true rfl) (Nat.le_of_ble_eq_true rfl) ⟨congrArg (fun b => some (Value.int (iI (bI b)))) (by clear C hκ hκl hS hB hB1 hB2 hB3 hB4 hB5 hB6 hC hw hX hs hT h81 h82 f1a f1b f1c f1d; first | (simp_all [mcB]; done) | (simp_all [mcB] <;> omega) | (grind [mcB]) | (simp [mcB] at * <;> omega)), rfl⟩
    · skip
      refine z_aload_n C 21 0 dX0_mayBe_20 rfl rfl ?_
      refine z_getf C hκ (v := .ref (σ 10 (w 34 0))) 24 8 zk_X0 hX.o (by decide) q335 (Or.inl rfl) rfl dX0_mayBe_21 rfl ?_
      refine z_aload_n C 25 3 dX0_mayBe_24 rfl rfl ?_
      have c4i := xo_T hX (a := w 34 0) (b := w 13 (m)) (by omega) (by omega) (by omega) (by omega)
      refine z_acmp_ne C (xo σ 10 (w 34 0)) (xo σ 10 (w 13 (m))) 30 28 dX0_mayBe_25 (by decide) rfl (by rw [xo_y (by omega)]; rfl) (by rw [xo_y (by omega)]; rfl) (fun c4 => ?_) (fun c4 => ?_)
      · skip
        have c4b : ¬ (w 34 0 = w 13 (m)) := fun h9 => c4 (c4i.mpr h9); clear c4i
        refine z_aload_n C 31 1 dX0_mayBe_30 rfl rfl ?_
        refine z_callV (As := []) (rest := []) C hκ hκl 34 (k9_isPrivate hX hs hw hT (m) ⟨by omega, by omega⟩) dX0_mayBe_31 q1253 q1038 q1039 q103 q1040 znX9_isPrivate (Nat.le_of_ble_eq_true rfl) (Nat.le_of_ble_eq_true rfl) (Nat.le_of_ble_eq_true rfl) (Nat.le_of_ble_eq_true rfl) (zrec_P (hX.mem (by omega) (by omega))) rfl rfl (Nat.le_of_ble_eq_true rfl) rfl (fun v9 Q9 h9 => ?_)
        obtain ⟨rfl, rfl⟩ := h9
        refine z_as (st' := [.int (iI (bI (prB w (m))))]) rfl rfl rfl ?_
        refine z_ifB_eq C 39 37 dX0_mayBe_34 (by decide) rfl (fun c5 => ?_) (fun c5 => ?_)
        · skip
          have c5b : ¬ (whoI w (m) = 2) := of_decide_eq_false c5
          refine z_aload_n C 40 1 dX0_mayBe_39 rfl rfl ?_
          refine z_iconst C 41 dX0_mayBe_40 rfl ?_
          refine z_callV (As := [.int (iI (4))]) (rest := []) C hκ hκl 44 (k9_has hX hs hw hT (m) (4) ⟨by decide, by decide⟩ ⟨by omega, by omega⟩) dX0_mayBe_41 q711 q712 q713 q103 q714 znX9_has (Nat.le_of_ble_eq_true rfl) (Nat.le_of_ble_eq_true rfl) (Nat.le_of_ble_eq_true rfl) (Nat.le_of_ble_eq_true rfl) (zrec_P (hX.mem (by omega) (by omega))) rfl rfl (Nat.le_of_ble_eq_true rfl) rfl (fun v9 Q9 h9 => ?_)
          obtain ⟨rfl, rfl⟩ := h9
          refine z_as (st' := [.int (iI (bI (hasB w (m) (4))))]) rfl rfl rfl ?_
          refine z_ifB_ne C 68 47 dX0_mayBe_44 (by decide) rfl (fun c6 => ?_) (fun c6 => ?_)
          · skip
            refine z_iconst C 69 dX0_mayBe_68 rfl ?_
            refine z_goto C 73 dX0_mayBe_69 (by decide) ?_
            refine z_istore (lv' := [(0, .ref (σ 0 (0))), (1, .ref (σ 20 (m))), (2, va_rf (xo σ 30 (x))), (3, .ref (σ 10 (w 13 (m)))), (4, .int (iI (1)))]) C 75 [1, 2, 3, 4, 0] dX0_mayBe_73 (by decide) rfl rfl ?_
            refine z_aload_n C 76 0 dX0_mayBe_75 rfl rfl ?_
            refine z_getf C hκ (v := .ref (σ 10 (w 34 0))) 79 8 zk_X0 hX.o (by decide) q335 (Or.inl rfl) rfl dX0_mayBe_76 rfl ?_
            obtain ⟨f7a, f7b, f7c, f7d, f7e, f7f, f7g, f7h⟩ := hS.T (show 0 ≤ w 34 0 by omega) (by omega)
            obtain ⟨f7i, f7j, f7k, f7l⟩ := hs.ty (show 0 ≤ w 34 0 by omega) (by omega)
            refine x_tget (v := .int (iI (w 3 (w 34 0)))) C hκ 82 1 hX hs (by omega) (by omega) (by decide) rfl rfl rfl q179 (Or.inl rfl) rfl dX0_mayBe_79 rfl ?_
            refine z_aload_n C 83 3 dX0_mayBe_82 rfl rfl ?_
            obtain ⟨f8a, f8b, f8c, f8d, f8e, f8f, f8g, f8h⟩ := hS.T (show 0 ≤ w 13 (m) by omega) (by omega)
            obtain ⟨f8i, f8j, f8k, f8l⟩ := hs.ty (show 0 ≤ w 13 (m) by omega) (by omega)
            refine x_tget (v := .int (iI (w 3 (w 13 (m))))) C hκ 86 1 hX hs (by omega) (by omega) (by decide) rfl rfl rfl q179 (Or.inl rfl) rfl dX0_mayBe_83 rfl ?_
            refine z_icmp_eq C 113 89 dX0_mayBe_86 (by decide) (hw.r _ _ rfl) (hw.r _ _ rfl) rfl (fun c9 => ?_) (fun c9 => ?_)
            · skip
              refine z_iconst C 114 dX0_mayBe_113 rfl ?_
              refine z_goto C 118 dX0_mayBe_114 (by decide) ?_
              refine z_as (st' := [.int (iI (bI (true)))]) rfl rfl rfl ?_
              exact z_iret C dX0_mayBe_118 (bI_nar _) (Nat.le_of_ble_eq_true rfl) (Nat.le_of_ble_eq_true rfl) ⟨congrArg (fun b => some (Value.int (iI (bI b)))) (by clear C hκ hκl hS hB hB1 hB2 hB3 hB4 hB5 hB6 hC hw hX hs hT h81 h82 f1a f1b f1c f1d f7a f7b f7c f7d f7e f7f f7g f7h f7i f7j f7k f7l f8a f8b f8c f8d f8e f8f f8g f8h f8i f8j f8k f8l; first | (simp_all [mcB]; done) | (simp_all [mcB] <;> omega) | (grind [mcB]) | (simp [mcB] at * <;> omega)), rfl⟩
            · skip
              refine z_aload_n C 90 1 dX0_mayBe_89 rfl rfl ?_
              refine z_callV (As := []) (rest := []) C hκ hκl 93 (k9_who hX hs hw hT (m) ⟨by omega, by omega⟩) dX0_mayBe_90 q1228 q955 q956 q103 q957 znX9_who (Nat.le_of_ble_eq_true rfl) (Nat.le_of_ble_eq_true rfl) (Nat.le_of_ble_eq_true rfl) (Nat.le_of_ble_eq_true rfl) (zrec_P (hX.mem (by omega) (by omega))) rfl rfl (Nat.le_of_ble_eq_true rfl) rfl (fun v9 Q9 h9 => ?_)
              obtain ⟨rfl, rfl⟩ := h9
              refine z_as (st' := [.int (iI (whoI w (m)))]) rfl rfl rfl ?_
              refine z_iconst C 94 dX0_mayBe_93 rfl ?_
              refine z_icmp_ne C 117 97 dX0_mayBe_94 (by decide) (inR_zand _ _) ⟨by decide, by decide⟩ rfl (fun c10 => ?_) (fun c10 => ?_)
              · skip
                refine z_iconst C 118 dX0_mayBe_117 rfl ?_
                refine z_as (st' := [.int (iI (bI (false)))]) rfl rfl rfl ?_
                exact z_iret C dX0_mayBe_118 (bI_nar _) (Nat.le_of_ble_eq_true rfl) (Nat.le_of_ble_eq_true rfl) ⟨congrArg (fun b => some (Value.int (iI (bI b)))) (by clear C hκ hκl hS hB hB1 hB2 hB3 hB4 hB5 hB6 hC hw hX hs hT h81 h82 f1a f1b f1c f1d f7a f7b f7c f7d f7e f7f f7g f7h f7i f7j f7k f7l f8a f8b f8c f8d f8e f8f f8g f8h f8i f8j f8k f8l; first | (simp_all [mcB]; done) | (simp_all [mcB] <;> omega) | (grind [mcB]) | (simp [mcB] at * <;> omega)), rfl⟩
              · skip
                refine z_aload_n C 98 0 dX0_mayBe_97 rfl rfl ?_
                refine z_getf C hκ (v := .ref (σ 10 (w 34 0))) 101 8 zk_X0 hX.o (by decide) q335 (Or.inl rfl) rfl dX0_mayBe_98 rfl ?_
                refine z_aload_n C 102 3 dX0_mayBe_101 rfl rfl ?_
                refine xv_is (rest := []) C hκ hκl hX hs hw hT (w 34 0) (w 13 (m)) ⟨(by omega), (by omega)⟩ ⟨(by omega), (by omega)⟩ 105 dX0_mayBe_102 q557 (Nat.le_of_ble_eq_true rfl) (Nat.le_of_ble_eq_true rfl) (Nat.le_of_ble_eq_true rfl) (Nat.le_of_ble_eq_true rfl) (Nat.le_of_ble_eq_true rfl) rfl ?_
                refine z_as (st' := [.int (iI (bI (giB w (w 34 0) (w 13 (m)))))]) rfl rfl rfl ?_
                refine z_ifB_eq C 117 108 dX0_mayBe_105 (by decide) rfl (fun c11 => ?_) (fun c11 => ?_)
                · skip
                  refine z_iconst C 118 dX0_mayBe_117 rfl ?_
                  refine z_as (st' := [.int (iI (bI (false)))]) rfl rfl rfl ?_
                  exact z_iret C dX0_mayBe_118 (bI_nar _) (Nat.le_of_ble_eq_true rfl) (Nat.le_of_ble_eq_true rfl) ⟨congrArg (fun b => some (Value.int (iI (bI b)))) (by clear C hκ hκl hS hB hB1 hB2 hB3 hB4 hB5 hB6 hC hw hX hs hT h81 h82 f1a f1b f1c f1d f7a f7b f7c f7d f7e f7f f7g f7h f7i f7j f7k f7l f8a f8b f8c f8d f8e f8f f8g f8h f8i f8j f8k f8l; first | (simp_all [mcB]; done) | (simp_all [mcB] <;> omega) | (grind [mcB]) | (simp [mcB] at * <;> omega)), rfl⟩
                · skip
                  refine z_iload C 110 4 dX0_mayBe_108 rfl rfl ?_
                  refine z_if_eq C 117 113 dX0_mayBe_110 (by decide) ⟨by decide, by decide⟩ rfl (fun c12 => absurd c12 (by decide)) (fun c12 => ?_)
                  refine z_iconst C 114 dX0_mayBe_113 rfl ?_
                  refine z_goto C 118 dX0_mayBe_114 (by decide) ?_
                  refine z_as (st' := [.int (iI (bI (true)))]) rfl rfl rfl ?_
                  exact z_iret C dX0_mayBe_118 (bI_nar _) (Nat.le_of_ble_eq_true rfl) (Nat.le_of_ble_eq_true rfl) ⟨congrArg (fun b => some (Value.int (iI (bI b)))) (by clear C hκ hκl hS hB hB1 hB2 hB3 hB4 hB5 hB6 hC hw hX hs hT h81 h82 f1a f1b f1c f1d f7a f7b f7c f7d f7e f7f f7g f7h f7i f7j f7k f7l f8a f8b f8c f8d f8e f8f f8g f8h f8i f8j f8k f8l; first | (simp_all [mcB]; done) | (simp_all [mcB] <;> omega) | (grind [mcB]) | (simp [mcB] at * <;> omega)), rfl⟩
          · skip
            refine z_aload_nq C 48 2 dX0_mayBe_47 rfl rfl ?_
            refine x_isOneq C hκ hT 51 hX (by omega) q556 dX0_mayBe_48 rfl ?_
            refine z_as (st' := [.int (iI (bI (decide (0 ≤ x ∧ w 29 (x) = -1))))]) rfl rfl rfl ?_
            refine z_ifB_eq C 72 54 dX0_mayBe_51 (by decide) rfl (fun c13 => ?_) (fun c13 => ?_)
            · skip
              have c13b : ¬ ((0 ≤ x ∧ w 29 (x) = -1)) := of_decide_eq_false c13
              refine z_iconst C 73 dX0_mayBe_72 rfl ?_
              refine z_istore (lv' := [(0, .ref (σ 0 (0))), (1, .ref (σ 20 (m))), (2, va_rf (xo σ 30 (x))), (3, .ref (σ 10 (w 13 (m)))), (4, .int (iI (0)))]) C 75 [1, 2, 3, 4, 0] dX0_mayBe_73 (by decide) rfl rfl ?_
              refine z_aload_n C 76 0 dX0_mayBe_75 rfl rfl ?_
              refine z_getf C hκ (v := .ref (σ 10 (w 34 0))) 79 8 zk_X0 hX.o (by decide) q335 (Or.inl rfl) rfl dX0_mayBe_76 rfl ?_
              obtain ⟨f14a, f14b, f14c, f14d, f14e, f14f, f14g, f14h⟩ := hS.T (show 0 ≤ w 34 0 by omega) (by omega)
              obtain ⟨f14i, f14j, f14k, f14l⟩ := hs.ty (show 0 ≤ w 34 0 by omega) (by omega)
              refine x_tget (v := .int (iI (w 3 (w 34 0)))) C hκ 82 1 hX hs (by omega) (by omega) (by decide) rfl rfl rfl q179 (Or.inl rfl) rfl dX0_mayBe_79 rfl ?_
              refine z_aload_n C 83 3 dX0_mayBe_82 rfl rfl ?_
              obtain ⟨f15a, f15b, f15c, f15d, f15e, f15f, f15g, f15h⟩ := hS.T (show 0 ≤ w 13 (m) by omega) (by omega)
              obtain ⟨f15i, f15j, f15k, f15l⟩ := hs.ty (show 0 ≤ w 13 (m) by omega) (by omega)
              refine x_tget (v := .int (iI (w 3 (w 13 (m))))) C hκ 86 1 hX hs (by omega) (by omega) (by decide) rfl rfl rfl q179 (Or.inl rfl) rfl dX0_mayBe_83 rfl ?_
              refine z_icmp_eq C 113 89 dX0_mayBe_86 (by decide) (hw.r _ _ rfl) (hw.r _ _ rfl) rfl (fun c16 => ?_) (fun c16 => ?_)
              · skip
                refine z_iconst C 114 dX0_mayBe_113 rfl ?_
                refine z_goto C 118 dX0_mayBe_114 (by decide) ?_
                refine z_as (st' := [.int (iI (bI (true)))]) rfl rfl rfl ?_
                exact z_iret C dX0_mayBe_118 (bI_nar _) (Nat.le_of_ble_eq_true rfl) (Nat.le_of_ble_eq_true rfl) ⟨congrArg (fun b => some (Value.int (iI (bI b)))) (by clear C hκ hκl hS hB hB1 hB2 hB3 hB4 hB5 hB6 hC hw hX hs hT h81 h82 f1a f1b f1c f1d f14a f14b f14c f14d f14e f14f f14g f14h f14i f14j f14k f14l f15a f15b f15c f15d f15e f15f f15g f15h f15i f15j f15k f15l; first | (simp_all [mcB]; done) | (simp_all [mcB] <;> omega) | (grind [mcB]) | (simp [mcB] at * <;> omega)), rfl⟩
              · skip
                refine z_aload_n C 90 1 dX0_mayBe_89 rfl rfl ?_
                refine z_callV (As := []) (rest := []) C hκ hκl 93 (k9_who hX hs hw hT (m) ⟨by omega, by omega⟩) dX0_mayBe_90 q1228 q955 q956 q103 q957 znX9_who (Nat.le_of_ble_eq_true rfl) (Nat.le_of_ble_eq_true rfl) (Nat.le_of_ble_eq_true rfl) (Nat.le_of_ble_eq_true rfl) (zrec_P (hX.mem (by omega) (by omega))) rfl rfl (Nat.le_of_ble_eq_true rfl) rfl (fun v9 Q9 h9 => ?_)
                obtain ⟨rfl, rfl⟩ := h9
                refine z_as (st' := [.int (iI (whoI w (m)))]) rfl rfl rfl ?_
                refine z_iconst C 94 dX0_mayBe_93 rfl ?_
                refine z_icmp_ne C 117 97 dX0_mayBe_94 (by decide) (inR_zand _ _) ⟨by decide, by decide⟩ rfl (fun c17 => ?_) (fun c17 => ?_)
                · skip
                  refine z_iconst C 118 dX0_mayBe_117 rfl ?_
                  refine z_as (st' := [.int (iI (bI (false)))]) rfl rfl rfl ?_
                  exact z_iret C dX0_mayBe_118 (bI_nar _) (Nat.le_of_ble_eq_true rfl) (Nat.le_of_ble_eq_true rfl) ⟨congrArg (fun b => some (Value.int (iI (bI b)))) (by clear C hκ hκl hS hB hB1 hB2 hB3 hB4 hB5 hB6 hC hw hX hs hT h81 h82 f1a f1b f1c f1d f14a f14b f14c f14d f14e f14f f14g f14h f14i f14j f14k f14l f15a f15b f15c f15d f15e f15f f15g f15h f15i f15j f15k f15l; first | (simp_all [mcB]; done) | (simp_all [mcB] <;> omega) | (grind [mcB]) | (simp [mcB] at * <;> omega)), rfl⟩
                · skip
                  refine z_aload_n C 98 0 dX0_mayBe_97 rfl rfl ?_
                  refine z_getf C hκ (v := .ref (σ 10 (w 34 0))) 101 8 zk_X0 hX.o (by decide) q335 (Or.inl rfl) rfl dX0_mayBe_98 rfl ?_
                  refine z_aload_n C 102 3 dX0_mayBe_101 rfl rfl ?_
                  refine xv_is (rest := []) C hκ hκl hX hs hw hT (w 34 0) (w 13 (m)) ⟨(by omega), (by omega)⟩ ⟨(by omega), (by omega)⟩ 105 dX0_mayBe_102 q557 (Nat.le_of_ble_eq_true rfl) (Nat.le_of_ble_eq_true rfl) (Nat.le_of_ble_eq_true rfl) (Nat.le_of_ble_eq_true rfl) (Nat.le_of_ble_eq_true rfl) rfl ?_
                  refine z_as (st' := [.int (iI (bI (giB w (w 34 0) (w 13 (m)))))]) rfl rfl rfl ?_
                  refine z_ifB_eq C 117 108 dX0_mayBe_105 (by decide) rfl (fun c18 => ?_) (fun c18 => ?_)
                  · skip
                    refine z_iconst C 118 dX0_mayBe_117 rfl ?_
                    refine z_as (st' := [.int (iI (bI (false)))]) rfl rfl rfl ?_
                    exact z_iret C dX0_mayBe_118 (bI_nar _) (Nat.le_of_ble_eq_true rfl) (Nat.le_of_ble_eq_true rfl) ⟨congrArg (fun b => some (Value.int (iI (bI b)))) (by clear C hκ hκl hS hB hB1 hB2 hB3 hB4 hB5 hB6 hC hw hX hs hT h81 h82 f1a f1b f1c f1d f14a f14b f14c f14d f14e f14f f14g f14h f14i f14j f14k f14l f15a f15b f15c f15d f15e f15f f15g f15h f15i f15j f15k f15l; first | (simp_all [mcB]; done) | (simp_all [mcB] <;> omega) | (grind [mcB]) | (simp [mcB] at * <;> omega)), rfl⟩
                  · skip
                    refine z_iload C 110 4 dX0_mayBe_108 rfl rfl ?_
                    refine z_if_eq C 117 113 dX0_mayBe_110 (by decide) ⟨by decide, by decide⟩ rfl (fun c19 => ?_) (fun c19 => absurd c19 (by decide))
                    refine z_iconst C 118 dX0_mayBe_117 rfl ?_
                    refine z_as (st' := [.int (iI (bI (false)))]) rfl rfl rfl ?_
                    exact z_iret C dX0_mayBe_118 (bI_nar _) (Nat.le_of_ble_eq_true rfl) (Nat.le_of_ble_eq_true rfl) ⟨congrArg (fun b => some (Value.int (iI (bI b)))) (by clear C hκ hκl hS hB hB1 hB2 hB3 hB4 hB5 hB6 hC hw hX hs hT h81 h82 f1a f1b f1c f1d f14a f14b f14c f14d f14e f14f f14g f14h f14i f14j f14k f14l f15a f15b f15c f15d f15e f15f f15g f15h f15i f15j f15k f15l; first | (simp_all [mcB]; done) | (simp_all [mcB] <;> omega) | (grind [mcB]) | (simp [mcB] at * <;> omega)), rfl⟩
            · skip
              have c13b : ((0 ≤ x ∧ w 29 (x) = -1)) := of_decide_eq_true c13
              refine z_aload_nq C 55 2 dX0_mayBe_54 rfl rfl ?_
              have y20 : 0 ≤ x := (by omega)
              rw [xo_y y20]
              refine z_as (st' := [.ref (σ 30 (x))]) (lv' := [(0, .ref (σ 0 (0))), (1, .ref (σ 20 (m))), (2, .ref (σ 30 (x))), (3, .ref (σ 10 (w 13 (m))))]) rfl rfl rfl ?_
              obtain ⟨f21a, f21b, f21c⟩ := hS.X (show 0 ≤ x by omega) (by omega)
              refine x_pget (v := .ref (σ 10 (w 28 (x)))) C hκ 58 1 hX (by omega) (by omega) (by decide) rfl q1274 (Or.inl rfl) rfl dX0_mayBe_55 rfl ?_
              refine z_aload_n C 59 0 dX0_mayBe_58 rfl rfl ?_
              refine z_getf C hκ (v := .ref (σ 10 (w 34 0))) 62 8 zk_X0 hX.o (by decide) q335 (Or.inl rfl) rfl dX0_mayBe_59 rfl ?_
              obtain ⟨f22a, f22b, f22c, f22d, f22e, f22f, f22g, f22h⟩ := hS.T (show 0 ≤ w 28 (x) by omega) (by omega)
              obtain ⟨f22i, f22j, f22k, f22l⟩ := hs.ty (show 0 ≤ w 28 (x) by omega) (by omega)
              obtain ⟨f23a, f23b, f23c, f23d, f23e, f23f, f23g, f23h⟩ := hS.T (show 0 ≤ w 34 0 by omega) (by omega)
              obtain ⟨f23i, f23j, f23k, f23l⟩ := hs.ty (show 0 ≤ w 34 0 by omega) (by omega)
              refine xv_is (rest := []) C hκ hκl hX hs hw hT (w 28 (x)) (w 34 0) ⟨(by omega), (by omega)⟩ ⟨(by omega), (by omega)⟩ 65 dX0_mayBe_62 q557 (Nat.le_of_ble_eq_true rfl) (Nat.le_of_ble_eq_true rfl) (Nat.le_of_ble_eq_true rfl) (Nat.le_of_ble_eq_true rfl) (Nat.le_of_ble_eq_true rfl) rfl ?_
              refine z_as (st' := [.int (iI (bI (giB w (w 28 (x)) (w 34 0))))]) rfl rfl rfl ?_
              refine z_ifB_eq C 72 68 dX0_mayBe_65 (by decide) rfl (fun c24 => ?_) (fun c24 => ?_)
              · skip
                refine z_iconst C 73 dX0_mayBe_72 rfl ?_
                refine z_istore (lv' := [(0, .ref (σ 0 (0))), (1, .ref (σ 20 (m))), (2, .ref (σ 30 (x))), (3, .ref (σ 10 (w 13 (m)))), (4, .int (iI (0)))]) C 75 [1, 2, 3, 4, 0] dX0_mayBe_73 (by decide) rfl rfl ?_
                refine z_aload_n C 76 0 dX0_mayBe_75 rfl rfl ?_
                refine z_getf C hκ (v := .ref (σ 10 (w 34 0))) 79 8 zk_X0 hX.o (by decide) q335 (Or.inl rfl) rfl dX0_mayBe_76 rfl ?_
                refine x_tget (v := .int (iI (w 3 (w 34 0)))) C hκ 82 1 hX hs (by omega) (by omega) (by decide) rfl rfl rfl q179 (Or.inl rfl) rfl dX0_mayBe_79 rfl ?_
                refine z_aload_n C 83 3 dX0_mayBe_82 rfl rfl ?_
                obtain ⟨f25a, f25b, f25c, f25d, f25e, f25f, f25g, f25h⟩ := hS.T (show 0 ≤ w 13 (m) by omega) (by omega)
                obtain ⟨f25i, f25j, f25k, f25l⟩ := hs.ty (show 0 ≤ w 13 (m) by omega) (by omega)
                refine x_tget (v := .int (iI (w 3 (w 13 (m))))) C hκ 86 1 hX hs (by omega) (by omega) (by decide) rfl rfl rfl q179 (Or.inl rfl) rfl dX0_mayBe_83 rfl ?_
                refine z_icmp_eq C 113 89 dX0_mayBe_86 (by decide) (hw.r _ _ rfl) (hw.r _ _ rfl) rfl (fun c26 => ?_) (fun c26 => ?_)
                · skip
                  refine z_iconst C 114 dX0_mayBe_113 rfl ?_
                  refine z_goto C 118 dX0_mayBe_114 (by decide) ?_
                  refine z_as (st' := [.int (iI (bI (true)))]) rfl rfl rfl ?_
                  exact z_iret C dX0_mayBe_118 (bI_nar _) (Nat.le_of_ble_eq_true rfl) (Nat.le_of_ble_eq_true rfl) ⟨congrArg (fun b => some (Value.int (iI (bI b)))) (by clear C hκ hκl hS hB hB1 hB2 hB3 hB4 hB5 hB6 hC hw hX hs hT h81 h82 f1a f1b f1c f1d f21a f21b f21c f22a f22b f22c f22d f22e f22f f22g f22h f22i f22j f22k f22l f23a f23b f23c f23d f23e f23f f23g f23h f23i f23j f23k f23l f25a f25b f25c f25d f25e f25f f25g f25h f25i f25j f25k f25l; first | (simp_all [mcB]; done) | (simp_all [mcB] <;> omega) | (grind [mcB]) | (simp [mcB] at * <;> omega)), rfl⟩
                · skip
                  refine z_aload_n C 90 1 dX0_mayBe_89 rfl rfl ?_
                  refine z_callV (As := []) (rest := []) C hκ hκl 93 (k9_who hX hs hw hT (m) ⟨by omega, by omega⟩) dX0_mayBe_90 q1228 q955 q956 q103 q957 znX9_who (Nat.le_of_ble_eq_true rfl) (Nat.le_of_ble_eq_true rfl) (Nat.le_of_ble_eq_true rfl) (Nat.le_of_ble_eq_true rfl) (zrec_P (hX.mem (by omega) (by omega))) rfl rfl (Nat.le_of_ble_eq_true rfl) rfl (fun v9 Q9 h9 => ?_)
                  obtain ⟨rfl, rfl⟩ := h9
                  refine z_as (st' := [.int (iI (whoI w (m)))]) rfl rfl rfl ?_
                  refine z_iconst C 94 dX0_mayBe_93 rfl ?_
                  refine z_icmp_ne C 117 97 dX0_mayBe_94 (by decide) (inR_zand _ _) ⟨by decide, by decide⟩ rfl (fun c27 => ?_) (fun c27 => ?_)
                  · skip
                    refine z_iconst C 118 dX0_mayBe_117 rfl ?_
                    refine z_as (st' := [.int (iI (bI (false)))]) rfl rfl rfl ?_
                    exact z_iret C dX0_mayBe_118 (bI_nar _) (Nat.le_of_ble_eq_true rfl) (Nat.le_of_ble_eq_true rfl) ⟨congrArg (fun b => some (Value.int (iI (bI b)))) (by clear C hκ hκl hS hB hB1 hB2 hB3 hB4 hB5 hB6 hC hw hX hs hT h81 h82 f1a f1b f1c f1d f21a f21b f21c f22a f22b f22c f22d f22e f22f f22g f22h f22i f22j f22k f22l f23a f23b f23c f23d f23e f23f f23g f23h f23i f23j f23k f23l f25a f25b f25c f25d f25e f25f f25g f25h f25i f25j f25k f25l; first | (simp_all [mcB]; done) | (simp_all [mcB] <;> omega) | (grind [mcB]) | (simp [mcB] at * <;> omega)), rfl⟩
                  · skip
                    refine z_aload_n C 98 0 dX0_mayBe_97 rfl rfl ?_
                    refine z_getf C hκ (v := .ref (σ 10 (w 34 0))) 101 8 zk_X0 hX.o (by decide) q335 (Or.inl rfl) rfl dX0_mayBe_98 rfl ?_
                    refine z_aload_n C 102 3 dX0_mayBe_101 rfl rfl ?_
                    refine xv_is (rest := []) C hκ hκl hX hs hw hT (w 34 0) (w 13 (m)) ⟨(by omega), (by omega)⟩ ⟨(by omega), (by omega)⟩ 105 dX0_mayBe_102 q557 (Nat.le_of_ble_eq_true rfl) (Nat.le_of_ble_eq_true rfl) (Nat.le_of_ble_eq_true rfl) (Nat.le_of_ble_eq_true rfl) (Nat.le_of_ble_eq_true rfl) rfl ?_
                    refine z_as (st' := [.int (iI (bI (giB w (w 34 0) (w 13 (m)))))]) rfl rfl rfl ?_
                    refine z_ifB_eq C 117 108 dX0_mayBe_105 (by decide) rfl (fun c28 => ?_) (fun c28 => ?_)
                    · skip
                      refine z_iconst C 118 dX0_mayBe_117 rfl ?_
                      refine z_as (st' := [.int (iI (bI (false)))]) rfl rfl rfl ?_
                      exact z_iret C dX0_mayBe_118 (bI_nar _) (Nat.le_of_ble_eq_true rfl) (Nat.le_of_ble_eq_true rfl) ⟨congrArg (fun b => some (Value.int (iI (bI b)))) (by clear C hκ hκl hS hB hB1 hB2 hB3 hB4 hB5 hB6 hC hw hX hs hT h81 h82 f1a f1b f1c f1d f21a f21b f21c f22a f22b f22c f22d f22e f22f f22g f22h f22i f22j f22k f22l f23a f23b f23c f23d f23e f23f f23g f23h f23i f23j f23k f23l f25a f25b f25c f25d f25e f25f f25g f25h f25i f25j f25k f25l; first | (simp_all [mcB]; done) | (simp_all [mcB] <;> omega) | (grind [mcB]) | (simp [mcB] at * <;> omega)), rfl⟩
                    · skip
                      refine z_iload C 110 4 dX0_mayBe_108 rfl rfl ?_
                      refine z_if_eq C 117 113 dX0_mayBe_110 (by decide) ⟨by decide, by decide⟩ rfl (fun c29 => ?_) (fun c29 => absurd c29 (by decide))
                      refine z_iconst C 118 dX0_mayBe_117 rfl ?_
                      refine z_as (st' := [.int (iI (bI (false)))]) rfl rfl rfl ?_
                      exact z_iret C dX0_mayBe_118 (bI_nar _) (Nat.le_of_ble_eq_true rfl) (Nat.le_of_ble_eq_true rfl) ⟨congrArg (fun b => some (Value.int (iI (bI b)))) (by clear C hκ hκl hS hB hB1 hB2 hB3 hB4 hB5 hB6 hC hw hX hs hT h81 h82 f1a f1b f1c f1d f21a f21b f21c f22a f22b f22c f22d f22e f22f f22g f22h f22i f22j f22k f22l f23a f23b f23c f23d f23e f23f f23g f23h f23i f23j f23k f23l f25a f25b f25c f25d f25e f25f f25g f25h f25i f25j f25k f25l; first | (simp_all [mcB]; done) | (simp_all [mcB] <;> omega) | (grind [mcB]) | (simp [mcB] at * <;> omega)), rfl⟩
              · skip
                refine z_iconst C 69 dX0_mayBe_68 rfl ?_
                refine z_goto C 73 dX0_mayBe_69 (by decide) ?_
                refine z_istore (lv' := [(0, .ref (σ 0 (0))), (1, .ref (σ 20 (m))), (2, .ref (σ 30 (x))), (3, .ref (σ 10 (w 13 (m)))), (4, .int (iI (1)))]) C 75 [1, 2, 3, 4, 0] dX0_mayBe_73 (by decide) rfl rfl ?_
                refine z_aload_n C 76 0 dX0_mayBe_75 rfl rfl ?_
                refine z_getf C hκ (v := .ref (σ 10 (w 34 0))) 79 8 zk_X0 hX.o (by decide) q335 (Or.inl rfl) rfl dX0_mayBe_76 rfl ?_
                refine x_tget (v := .int (iI (w 3 (w 34 0)))) C hκ 82 1 hX hs (by omega) (by omega) (by decide) rfl rfl rfl q179 (Or.inl rfl) rfl dX0_mayBe_79 rfl ?_
                refine z_aload_n C 83 3 dX0_mayBe_82 rfl rfl ?_
                obtain ⟨f30a, f30b, f30c, f30d, f30e, f30f, f30g, f30h⟩ := hS.T (show 0 ≤ w 13 (m) by omega) (by omega)
                obtain ⟨f30i, f30j, f30k, f30l⟩ := hs.ty (show 0 ≤ w 13 (m) by omega) (by omega)
                refine x_tget (v := .int (iI (w 3 (w 13 (m))))) C hκ 86 1 hX hs (by omega) (by omega) (by decide) rfl rfl rfl q179 (Or.inl rfl) rfl dX0_mayBe_83 rfl ?_
                refine z_icmp_eq C 113 89 dX0_mayBe_86 (by decide) (hw.r _ _ rfl) (hw.r _ _ rfl) rfl (fun c31 => ?_) (fun c31 => ?_)
                · skip
                  refine z_iconst C 114 dX0_mayBe_113 rfl ?_
                  refine z_goto C 118 dX0_mayBe_114 (by decide) ?_
                  refine z_as (st' := [.int (iI (bI (true)))]) rfl rfl rfl ?_
                  exact z_iret C dX0_mayBe_118 (bI_nar _) (Nat.le_of_ble_eq_true rfl) (Nat.le_of_ble_eq_true rfl) ⟨congrArg (fun b => some (Value.int (iI (bI b)))) (by clear C hκ hκl hS hB hB1 hB2 hB3 hB4 hB5 hB6 hC hw hX hs hT h81 h82 f1a f1b f1c f1d f21a f21b f21c f22a f22b f22c f22d f22e f22f f22g f22h f22i f22j f22k f22l f23a f23b f23c f23d f23e f23f f23g f23h f23i f23j f23k f23l f30a f30b f30c f30d f30e f30f f30g f30h f30i f30j f30k f30l; first | (simp_all [mcB]; done) | (simp_all [mcB] <;> omega) | (grind [mcB]) | (simp [mcB] at * <;> omega)), rfl⟩
                · skip
                  refine z_aload_n C 90 1 dX0_mayBe_89 rfl rfl ?_
                  refine z_callV (As := []) (rest := []) C hκ hκl 93 (k9_who hX hs hw hT (m) ⟨by omega, by omega⟩) dX0_mayBe_90 q1228 q955 q956 q103 q957 znX9_who (Nat.le_of_ble_eq_true rfl) (Nat.le_of_ble_eq_true rfl) (Nat.le_of_ble_eq_true rfl) (Nat.le_of_ble_eq_true rfl) (zrec_P (hX.mem (by omega) (by omega))) rfl rfl (Nat.le_of_ble_eq_true rfl) rfl (fun v9 Q9 h9 => ?_)
                  obtain ⟨rfl, rfl⟩ := h9
                  refine z_as (st' := [.int (iI (whoI w (m)))]) rfl rfl rfl ?_
                  refine z_iconst C 94 dX0_mayBe_93 rfl ?_
                  refine z_icmp_ne C 117 97 dX0_mayBe_94 (by decide) (inR_zand _ _) ⟨by decide, by decide⟩ rfl (fun c32 => ?_) (fun c32 => ?_)
                  · skip
                    refine z_iconst C 118 dX0_mayBe_117 rfl ?_
                    refine z_as (st' := [.int (iI (bI (false)))]) rfl rfl rfl ?_
                    exact z_iret C dX0_mayBe_118 (bI_nar _) (Nat.le_of_ble_eq_true rfl) (Nat.le_of_ble_eq_true rfl) ⟨congrArg (fun b => some (Value.int (iI (bI b)))) (by clear C hκ hκl hS hB hB1 hB2 hB3 hB4 hB5 hB6 hC hw hX hs hT h81 h82 f1a f1b f1c f1d f21a f21b f21c f22a f22b f22c f22d f22e f22f f22g f22h f22i f22j f22k f22l f23a f23b f23c f23d f23e f23f f23g f23h f23i f23j f23k f23l f30a f30b f30c f30d f30e f30f f30g f30h f30i f30j f30k f30l; first | (simp_all [mcB]; done) | (simp_all [mcB] <;> omega) | (grind [mcB]) | (simp [mcB] at * <;> omega)), rfl⟩
                  · skip
                    refine z_aload_n C 98 0 dX0_mayBe_97 rfl rfl ?_
                    refine z_getf C hκ (v := .ref (σ 10 (w 34 0))) 101 8 zk_X0 hX.o (by decide) q335 (Or.inl rfl) rfl dX0_mayBe_98 rfl ?_
                    refine z_aload_n C 102 3 dX0_mayBe_101 rfl rfl ?_
                    refine xv_is (rest := []) C hκ hκl hX hs hw hT (w 34 0) (w 13 (m)) ⟨(by omega), (by omega)⟩ ⟨(by omega), (by omega)⟩ 105 dX0_mayBe_102 q557 (Nat.le_of_ble_eq_true rfl) (Nat.le_of_ble_eq_true rfl) (Nat.le_of_ble_eq_true rfl) (Nat.le_of_ble_eq_true rfl) (Nat.le_of_ble_eq_true rfl) rfl ?_
                    refine z_as (st' := [.int (iI (bI (giB w (w 34 0) (w 13 (m)))))]) rfl rfl rfl ?_
                    refine z_ifB_eq C 117 108 dX0_mayBe_105 (by decide) rfl (fun c33 => ?_) (fun c33 => ?_)
                    · skip
                      refine z_iconst C 118 dX0_mayBe_117 rfl ?_
                      refine z_as (st' := [.int (iI (bI (false)))]) rfl rfl rfl ?_
                      exact z_iret C dX0_mayBe_118 (bI_nar _) (Nat.le_of_ble_eq_true rfl) (Nat.le_of_ble_eq_true rfl) ⟨congrArg (fun b => some (Value.int (iI (bI b)))) (by clear C hκ hκl hS hB hB1 hB2 hB3 hB4 hB5 hB6 hC hw hX hs hT h81 h82 f1a f1b f1c f1d f21a f21b f21c f22a f22b f22c f22d f22e f22f f22g f22h f22i f22j f22k f22l f23a f23b f23c f23d f23e f23f f23g f23h f23i f23j f23k f23l f30a f30b f30c f30d f30e f30f f30g f30h f30i f30j f30k f30l; first | (simp_all [mcB]; done) | (simp_all [mcB] <;> omega) | (grind [mcB]) | (simp [mcB] at * <;> omega)), rfl⟩
                    · skip
                      refine z_iload C 110 4 dX0_mayBe_108 rfl rfl ?_
                      refine z_if_eq C 117 113 dX0_mayBe_110 (by decide) ⟨by decide, by decide⟩ rfl (fun c34 => absurd c34 (by decide)) (fun c34 => ?_)
                      refine z_iconst C 114 dX0_mayBe_113 rfl ?_
                      refine z_goto C 118 dX0_mayBe_114 (by decide) ?_
                      refine z_as (st' := [.int (iI (bI (true)))]) rfl rfl rfl ?_
                      exact z_iret C dX0_mayBe_118 (bI_nar _) (Nat.le_of_ble_eq_true rfl) (Nat.le_of_ble_eq_true rfl) ⟨congrArg (fun b => some (Value.int (iI (bI b)))) (by clear C hκ hκl hS hB hB1 hB2 hB3 hB4 hB5 hB6 hC hw hX hs hT h81 h82 f1a f1b f1c f1d f21a f21b f21c f22a f22b f22c f22d f22e f22f f22g f22h f22i f22j f22k f22l f23a f23b f23c f23d f23e f23f f23g f23h f23i f23j f23k f23l f30a f30b f30c f30d f30e f30f f30g f30h f30i f30j f30k f30l; first | (simp_all [mcB]; done) | (simp_all [mcB] <;> omega) | (grind [mcB]) | (simp [mcB] at * <;> omega)), rfl⟩
        · skip
          have c5b : (whoI w (m) = 2) := of_decide_eq_true c5
          refine z_iconst C 38 dX0_mayBe_37 rfl ?_
          refine z_as (st' := [.int (iI (bI (false)))]) rfl rfl rfl ?_
          exact z_iret C dX0_mayBe_38 (bI_nar _) (Nat.le_of_ble_eq_true rfl) (Nat.le_of_ble_eq_true rfl) ⟨congrArg (fun b => some (Value.int (iI (bI b)))) (by clear C hκ hκl hS hB hB1 hB2 hB3 hB4 hB5 hB6 hC hw hX hs hT h81 h82 f1a f1b f1c f1d; first | (simp_all [mcB]; done) | (simp_all [mcB] <;> omega) | (grind [mcB]) | (simp [mcB] at * <;> omega)), rfl⟩
      · skip
        have c4b : w 34 0 = w 13 (m) := c4i.mp c4; clear c4i
        refine z_iconst C 29 dX0_mayBe_28 rfl ?_
        refine z_as (st' := [.int (iI (bI (true)))]) rfl rfl rfl ?_
        exact z_iret C dX0_mayBe_29 (bI_nar _) (Nat.le_of_ble_eq_true rfl) (Nat.le_of_ble_eq_true rfl) ⟨congrArg (fun b => some (Value.int (iI (bI b)))) (by clear C hκ hκl hS hB hB1 hB2 hB3 hB4 hB5 hB6 hC hw hX hs hT h81 h82 f1a f1b f1c f1d; first | (simp_all [mcB]; done) | (simp_all [mcB] <;> omega) | (grind [mcB]) | (simp [mcB] at * <;> omega)), rfl⟩
set_option maxRecDepth 100000 in
theorem k0_ancestor {l : Launch} {θ : zTh} {σ : xA} {w : mW} {M N : zMap} (hX : xM θ σ w (xL w) M) (hs : xS w) (hw : mWF w) (hT : zTb θ) (t : Int) (i : Int) (r_t : inR t) (r_i : inR i)  : ZM θ l yX0_ancestor cX0_ancestor 4 (some .int) ⟨2, 0, 0, 46⟩ [.ref (σ 0 (0)), .int (iI (t)), .int (iI (i))] (zP θ M N) (zFn (some (.int (iI (acI w t i)))) (zP θ M N)) := by
  refine z_start (own := RX0) (nm := "ancestor") pnX0 rfl rfl (Nat.le_of_ble_eq_true rfl) ?_
  intro κ hκ hκl C
  change Z κ (zP θ M N) 0 0 0 [(0, .ref (σ 0 (0))), (1, .int (iI (t))), (2, .int (iI (i)))] []
  have hS := hs.S
  have hB := hS.B
  obtain ⟨hB1, hB2, hB3, hB4, hB5, hB6⟩ := hS.B
  have hC := hS.C
  obtain ⟨h81, h82⟩ := hs.r8
  have hln : 0 ≤ t → t < w 0 0 → w 10 t = if 8 ≤ t then ((xL w t).length : Int) else 0 := xab_len hs
  have h10 : 0 ≤ t → t < w 0 0 → 0 ≤ w 10 t ∧ w 10 t ≤ 60 := fun a b => (hS.T a b).2.2.2.2.1
  refine z_aload_n C 1 0 dX0_ancestor_0 rfl rfl ?_
  refine z_iload_n C 2 1 dX0_ancestor_1 rfl rfl ?_
  refine z_callV (As := [.int (iI (t))]) (rest := []) C hκ hκl 5 (k0_isType hX hs hw hT (t) r_t) dX0_ancestor_2 q374 q376 qs1 q90 q377 znX0_isType (Nat.le_of_ble_eq_true rfl) (Nat.le_of_ble_eq_true rfl) (Nat.le_of_ble_eq_true rfl) (Nat.le_of_ble_eq_true rfl) (zrec_P hX.o) rfl rfl (Nat.le_of_ble_eq_true rfl) rfl (fun v9 Q9 h9 => ?_)
  obtain ⟨rfl, rfl⟩ := h9
  refine z_as (st' := [.int (iI (bI (tyB w (t))))]) rfl rfl rfl ?_
  refine z_ifB_eq C 45 8 dX0_ancestor_5 (by decide) rfl (fun c1 => ?_) (fun c1 => ?_)
  · skip
    have c1b : ¬ (0 ≤ (t) ∧ (t) < w 0 0) := of_decide_eq_false c1
    refine z_iconst C 46 dX0_ancestor_45 rfl ?_
    refine z_istore_n (lv' := [(0, .ref (σ 0 (0))), (1, .int (iI (t))), (2, .int (iI (i))), (3, .int (iI (0)))]) C 47 [1, 2, 3, 0] dX0_ancestor_46 (by decide) rfl rfl ?_
    refine z_iload_n C 48 3 dX0_ancestor_47 rfl rfl ?_
    refine z_if_eq C 68 51 dX0_ancestor_48 (by decide) ⟨by decide, by decide⟩ rfl (fun c2 => ?_) (fun c2 => absurd c2 (by decide))
    refine z_iconst C 69 dX0_ancestor_68 rfl ?_
    exact z_iret C dX0_ancestor_69 rfl (Nat.le_of_ble_eq_true rfl) (Nat.le_of_ble_eq_true rfl) ⟨congrArg (fun z => some (Value.int (iI z))) (by clear C hκ hκl hS hB hB1 hB2 hB3 hB4 hB5 hB6 hC hw hX hs hT h81 h82; unfold acI tyB; simp_all [rfB] <;> omega), rfl⟩
  · skip
    have c1b : (0 ≤ (t) ∧ (t) < w 0 0) := of_decide_eq_true c1
    refine z_aload_n C 9 0 dX0_ancestor_8 rfl rfl ?_
    refine z_getf C hκ (v := .ref (σ 1 (0))) 12 0 zk_X0 hX.o (by decide) q325 (Or.inl rfl) rfl dX0_ancestor_9 rfl ?_
    refine z_iload_n C 13 1 dX0_ancestor_12 rfl rfl ?_
    refine x_aT C hκ 14 hX hs (by omega) (by omega) dX0_ancestor_13 rfl ?_
    obtain ⟨f3a, f3b, f3c, f3d, f3e, f3f, f3g, f3h⟩ := hS.T (show 0 ≤ t by omega) (by omega)
    obtain ⟨f3i, f3j, f3k, f3l⟩ := hs.ty (show 0 ≤ t by omega) (by omega)
    refine xv_isReference (rest := []) C hκ hκl hX hs hw hT (t)   ⟨(by omega), (by omega)⟩  17 dX0_ancestor_14 q542 (Nat.le_of_ble_eq_true rfl) (Nat.le_of_ble_eq_true rfl) (Nat.le_of_ble_eq_true rfl) (Nat.le_of_ble_eq_true rfl) (Nat.le_of_ble_eq_true rfl) rfl ?_
    refine z_as (st' := [.int (iI (bI (rfB w (t))))]) rfl rfl rfl ?_
    refine z_ifB_eq C 45 20 dX0_ancestor_17 (by decide) rfl (fun c4 => ?_) (fun c4 => ?_)
    · skip
      have c4b : ¬ (8 ≤ (t) ∧ (t) < w 0 0) := of_decide_eq_false c4
      refine z_iconst C 46 dX0_ancestor_45 rfl ?_
      refine z_istore_n (lv' := [(0, .ref (σ 0 (0))), (1, .int (iI (t))), (2, .int (iI (i))), (3, .int (iI (0)))]) C 47 [1, 2, 3, 0] dX0_ancestor_46 (by decide) rfl rfl ?_
      refine z_iload_n C 48 3 dX0_ancestor_47 rfl rfl ?_
      refine z_if_eq C 68 51 dX0_ancestor_48 (by decide) ⟨by decide, by decide⟩ rfl (fun c5 => ?_) (fun c5 => absurd c5 (by decide))
      refine z_iconst C 69 dX0_ancestor_68 rfl ?_
      exact z_iret C dX0_ancestor_69 rfl (Nat.le_of_ble_eq_true rfl) (Nat.le_of_ble_eq_true rfl) ⟨congrArg (fun z => some (Value.int (iI z))) (by clear C hκ hκl hS hB hB1 hB2 hB3 hB4 hB5 hB6 hC hw hX hs hT h81 h82 f3a f3b f3c f3d f3e f3f f3g f3h f3i f3j f3k f3l; unfold acI tyB; simp_all [rfB] <;> omega), rfl⟩
    · skip
      have c4b : (8 ≤ (t) ∧ (t) < w 0 0) := of_decide_eq_true c4
      refine z_iload_n C 21 2 dX0_ancestor_20 rfl rfl ?_
      refine z_i2l C 22 dX0_ancestor_21 r_i rfl ?_
      refine z_lconst (x := 0) C 23 dX0_ancestor_22 rfl rfl ?_
      refine z_aload_n C 24 0 dX0_ancestor_23 rfl rfl ?_
      refine z_getf C hκ (v := .ref (σ 1 (0))) 27 0 zk_X0 hX.o (by decide) q325 (Or.inl rfl) rfl dX0_ancestor_24 rfl ?_
      refine z_iload_n C 28 1 dX0_ancestor_27 rfl rfl ?_
      refine x_aT C hκ 29 hX hs (by omega) (by omega) dX0_ancestor_28 rfl ?_
      refine x_tget (v := .int (iI ((((xL w) (t)).length : Int)))) C hκ 32 5 hX hs (by omega) (by omega) (by decide) rfl rfl rfl q195 (Or.inl rfl) rfl dX0_ancestor_29 rfl ?_
      refine z_iconst C 33 dX0_ancestor_32 rfl ?_
      refine z_isub C 34 dX0_ancestor_33 rfl ?_
      refine z_i2l C 35 dX0_ancestor_34 ⟨by omega, by omega⟩ rfl ?_
      refine z_callS (As := [.long (lI (i)), .long (lI (0)), .long (lI (((((xL w) (t)).length : Int)) - (1)))]) (rest := []) C hκ hκl 38 (k0_isIn hT (i) (0) (((((xL w) (t)).length : Int)) - (1)) (inR_L r_i) ⟨by decide, by decide⟩ ⟨by omega, by omega⟩) dX0_ancestor_35 q378 q379 q90 q380 znX0_isIn (Nat.le_of_ble_eq_true rfl) (Nat.le_of_ble_eq_true rfl) (Nat.le_of_ble_eq_true rfl) (Nat.le_of_ble_eq_true rfl) rfl (Nat.le_of_ble_eq_true rfl) rfl (fun v9 Q9 h9 => ?_)
      obtain ⟨rfl, rfl⟩ := h9
      refine z_as (st' := [.int (iI (bI (decide ((0) ≤ (i) ∧ (i) ≤ (((((xL w) (t)).length : Int)) - (1))))))]) rfl rfl rfl ?_
      refine z_ifB_eq C 45 41 dX0_ancestor_38 (by decide) rfl (fun c6 => ?_) (fun c6 => ?_)
      · skip
        have c6b : ¬ (((0) ≤ (i) ∧ (i) ≤ (((((xL w) (t)).length : Int)) - (1)))) := of_decide_eq_false c6
        refine z_iconst C 46 dX0_ancestor_45 rfl ?_
        refine z_istore_n (lv' := [(0, .ref (σ 0 (0))), (1, .int (iI (t))), (2, .int (iI (i))), (3, .int (iI (0)))]) C 47 [1, 2, 3, 0] dX0_ancestor_46 (by decide) rfl rfl ?_
        refine z_iload_n C 48 3 dX0_ancestor_47 rfl rfl ?_
        refine z_if_eq C 68 51 dX0_ancestor_48 (by decide) ⟨by decide, by decide⟩ rfl (fun c7 => ?_) (fun c7 => absurd c7 (by decide))
        refine z_iconst C 69 dX0_ancestor_68 rfl ?_
        exact z_iret C dX0_ancestor_69 rfl (Nat.le_of_ble_eq_true rfl) (Nat.le_of_ble_eq_true rfl) ⟨congrArg (fun z => some (Value.int (iI z))) (by clear C hκ hκl hS hB hB1 hB2 hB3 hB4 hB5 hB6 hC hw hX hs hT h81 h82 f3a f3b f3c f3d f3e f3f f3g f3h f3i f3j f3k f3l; unfold acI tyB; simp_all [rfB] <;> omega), rfl⟩
      · skip
        have c6b : (((0) ≤ (i) ∧ (i) ≤ (((((xL w) (t)).length : Int)) - (1)))) := of_decide_eq_true c6
        refine z_iconst C 42 dX0_ancestor_41 rfl ?_
        refine z_goto C 46 dX0_ancestor_42 (by decide) ?_
        refine z_istore_n (lv' := [(0, .ref (σ 0 (0))), (1, .int (iI (t))), (2, .int (iI (i))), (3, .int (iI (1)))]) C 47 [1, 2, 3, 0] dX0_ancestor_46 (by decide) rfl rfl ?_
        refine z_iload_n C 48 3 dX0_ancestor_47 rfl rfl ?_
        refine z_if_eq C 68 51 dX0_ancestor_48 (by decide) ⟨by decide, by decide⟩ rfl (fun c8 => absurd c8 (by decide)) (fun c8 => ?_)
        refine z_aload_n C 52 0 dX0_ancestor_51 rfl rfl ?_
        refine z_getf C hκ (v := .ref (σ 1 (0))) 55 0 zk_X0 hX.o (by decide) q325 (Or.inl rfl) rfl dX0_ancestor_52 rfl ?_
        refine z_iload_n C 56 1 dX0_ancestor_55 rfl rfl ?_
        refine x_aT C hκ 57 hX hs (by omega) (by omega) dX0_ancestor_56 rfl ?_
        refine x_tget (v := .ref (σ 12 (t))) C hκ 60 4 hX hs (by omega) (by omega) (by decide) rfl rfl rfl q194 (Or.inl rfl) rfl dX0_ancestor_57 rfl ?_
        have hi10 : 0 ≤ i ∧ i < w 10 t := by have := hln (by omega) (by omega); clear hln; simp_all [rfB] <;> omega
        have hy := (hS.T (show 0 ≤ t by omega) (by omega)).2.2.2.2.2.1 i hi10.1 hi10.2
        refine z_iload_n C 61 2 dX0_ancestor_60 rfl rfl ?_
        refine x_aab (a := (w 9 (60 * t + i))) C hκ 62 hX (by omega) (by omega) (by omega) (by omega) (xab_at hs (by simp_all [rfB]) (by omega) hi10.1 hi10.2) dX0_ancestor_61 rfl ?_
        obtain ⟨f9a, f9b, f9c, f9d, f9e, f9f, f9g, f9h⟩ := hS.T (show 0 ≤ (w 9 (60 * t + i)) by omega) (by omega)
        obtain ⟨f9i, f9j, f9k, f9l⟩ := hs.ty (show 0 ≤ (w 9 (60 * t + i)) by omega) (by omega)
        refine xv_number (rest := []) C hκ hκl hX hs hw hT ((w 9 (60 * t + i)))   ⟨(by omega), (by omega)⟩  65 dX0_ancestor_62 q396 (Nat.le_of_ble_eq_true rfl) (Nat.le_of_ble_eq_true rfl) (Nat.le_of_ble_eq_true rfl) (Nat.le_of_ble_eq_true rfl) (Nat.le_of_ble_eq_true rfl) rfl ?_
        refine z_as (st' := [.int (iI (((w 9 (60 * t + i)))))]) rfl rfl rfl ?_
        refine z_goto C 69 dX0_ancestor_65 (by decide) ?_
        exact z_iret C dX0_ancestor_69 rfl (Nat.le_of_ble_eq_true rfl) (Nat.le_of_ble_eq_true rfl) ⟨congrArg (fun z => some (Value.int (iI z))) (by clear C hκ hκl hS hB hB1 hB2 hB3 hB4 hB5 hB6 hC hw hX hs hT h81 h82 f3a f3b f3c f3d f3e f3f f3g f3h f3i f3j f3k f3l f9a f9b f9c f9d f9e f9f f9g f9h f9i f9j f9k f9l; unfold acI tyB; simp_all [rfB] <;> omega), rfl⟩
set_option maxRecDepth 100000 in
theorem k0_is {l : Launch} {θ : zTh} {σ : xA} {w : mW} {M N : zMap} (hX : xM θ σ w (xL w) M) (hs : xS w) (hw : mWF w) (hT : zTb θ) (a : Int) (b : Int) (r_a : inR a) (r_b : inR b)  : ZM θ l yX0_is cX0_is 3 (some .int) ⟨247, 0, 0, 2530⟩ [.ref (σ 0 (0)), .int (iI (a)), .int (iI (b))] (zP θ M N) (zFn (some (.int (iI (isI w a b)))) (zP θ M N)) := by
  refine z_start (own := RX0) (nm := "is") pnX0 rfl rfl (Nat.le_of_ble_eq_true rfl) ?_
  intro κ hκ hκl C
  change Z κ (zP θ M N) 0 0 0 [(0, .ref (σ 0 (0))), (1, .int (iI (a))), (2, .int (iI (b)))] []
  have hS := hs.S
  have hB := hS.B
  obtain ⟨hB1, hB2, hB3, hB4, hB5, hB6⟩ := hS.B
  have hC := hS.C
  obtain ⟨h81, h82⟩ := hs.r8
  refine z_aload_n C 1 0 dX0_is_0 rfl rfl ?_
  refine z_iload_n C 2 1 dX0_is_1 rfl rfl ?_
  refine z_callV (As := [.int (iI (a))]) (rest := []) C hκ hκl 5 (k0_isType hX hs hw hT (a) r_a) dX0_is_2 q374 q376 qs1 q90 q377 znX0_isType (Nat.le_of_ble_eq_true rfl) (Nat.le_of_ble_eq_true rfl) (Nat.le_of_ble_eq_true rfl) (Nat.le_of_ble_eq_true rfl) (zrec_P hX.o) rfl rfl (Nat.le_of_ble_eq_true rfl) rfl (fun v9 Q9 h9 => ?_)
  obtain ⟨rfl, rfl⟩ := h9
  refine z_as (st' := [.int (iI (bI (tyB w (a))))]) rfl rfl rfl ?_
  refine z_ifB_eq C 16 8 dX0_is_5 (by decide) rfl (fun c1 => ?_) (fun c1 => ?_)
  · skip
    have c1b : ¬ (0 ≤ (a) ∧ (a) < w 0 0) := of_decide_eq_false c1
    refine z_iconst C 17 dX0_is_16 rfl ?_
    refine z_goto C 43 dX0_is_17 (by decide) ?_
    exact z_iret C dX0_is_43 rfl (Nat.le_of_ble_eq_true rfl) (Nat.le_of_ble_eq_true rfl) ⟨congrArg (fun z => some (Value.int (iI z))) (by clear C hκ hκl hS hB hB1 hB2 hB3 hB4 hB5 hB6 hC hw hX hs hT h81 h82; first | (simp_all [isI, bI]; done) | (simp_all [isI, bI] <;> omega) | (grind [isI, bI]) | (simp [isI, bI] at * <;> omega)), rfl⟩
  · skip
    have c1b : (0 ≤ (a) ∧ (a) < w 0 0) := of_decide_eq_true c1
    refine z_aload_n C 9 0 dX0_is_8 rfl rfl ?_
    refine z_iload_n C 10 2 dX0_is_9 rfl rfl ?_
    refine z_callV (As := [.int (iI (b))]) (rest := []) C hκ hκl 13 (k0_isType hX hs hw hT (b) r_b) dX0_is_10 q374 q376 qs1 q90 q377 znX0_isType (Nat.le_of_ble_eq_true rfl) (Nat.le_of_ble_eq_true rfl) (Nat.le_of_ble_eq_true rfl) (Nat.le_of_ble_eq_true rfl) (zrec_P hX.o) rfl rfl (Nat.le_of_ble_eq_true rfl) rfl (fun v9 Q9 h9 => ?_)
    obtain ⟨rfl, rfl⟩ := h9
    refine z_as (st' := [.int (iI (bI (tyB w (b))))]) rfl rfl rfl ?_
    refine z_ifB_ne C 20 16 dX0_is_13 (by decide) rfl (fun c2 => ?_) (fun c2 => ?_)
    · skip
      have c2b : (0 ≤ (b) ∧ (b) < w 0 0) := of_decide_eq_true c2
      refine z_aload_n C 21 0 dX0_is_20 rfl rfl ?_
      refine z_getf C hκ (v := .ref (σ 1 (0))) 24 0 zk_X0 hX.o (by decide) q325 (Or.inl rfl) rfl dX0_is_21 rfl ?_
      refine z_iload_n C 25 1 dX0_is_24 rfl rfl ?_
      refine x_aT C hκ 26 hX hs (by omega) (by omega) dX0_is_25 rfl ?_
      obtain ⟨f3a, f3b, f3c, f3d, f3e, f3f, f3g, f3h⟩ := hS.T (show 0 ≤ a by omega) (by omega)
      obtain ⟨f3i, f3j, f3k, f3l⟩ := hs.ty (show 0 ≤ a by omega) (by omega)
      refine z_aload_n C 27 0 dX0_is_26 rfl rfl ?_
      refine z_getf C hκ (v := .ref (σ 1 (0))) 30 0 zk_X0 hX.o (by decide) q325 (Or.inl rfl) rfl dX0_is_27 rfl ?_
      refine z_iload_n C 31 2 dX0_is_30 rfl rfl ?_
      refine x_aT C hκ 32 hX hs (by omega) (by omega) dX0_is_31 rfl ?_
      obtain ⟨f4a, f4b, f4c, f4d, f4e, f4f, f4g, f4h⟩ := hS.T (show 0 ≤ b by omega) (by omega)
      obtain ⟨f4i, f4j, f4k, f4l⟩ := hs.ty (show 0 ≤ b by omega) (by omega)
      refine xv_is (rest := []) C hκ hκl hX hs hw hT (a) (b) ⟨(by omega), (by omega)⟩ ⟨(by omega), (by omega)⟩ 35 dX0_is_32 q557 (Nat.le_of_ble_eq_true rfl) (Nat.le_of_ble_eq_true rfl) (Nat.le_of_ble_eq_true rfl) (Nat.le_of_ble_eq_true rfl) (Nat.le_of_ble_eq_true rfl) rfl ?_
      refine z_as (st' := [.int (iI (bI (giB w (a) (b))))]) rfl rfl rfl ?_
      refine z_ifB_eq C 42 38 dX0_is_35 (by decide) rfl (fun c5 => ?_) (fun c5 => ?_)
      · skip
        refine z_iconst C 43 dX0_is_42 rfl ?_
        exact z_iret C dX0_is_43 rfl (Nat.le_of_ble_eq_true rfl) (Nat.le_of_ble_eq_true rfl) ⟨congrArg (fun z => some (Value.int (iI z))) (by clear C hκ hκl hS hB hB1 hB2 hB3 hB4 hB5 hB6 hC hw hX hs hT h81 h82 f3a f3b f3c f3d f3e f3f f3g f3h f3i f3j f3k f3l f4a f4b f4c f4d f4e f4f f4g f4h f4i f4j f4k f4l; first | (simp_all [isI, bI]; done) | (simp_all [isI, bI] <;> omega) | (grind [isI, bI]) | (simp [isI, bI] at * <;> omega)), rfl⟩
      · skip
        refine z_iconst C 39 dX0_is_38 rfl ?_
        refine z_goto C 43 dX0_is_39 (by decide) ?_
        exact z_iret C dX0_is_43 rfl (Nat.le_of_ble_eq_true rfl) (Nat.le_of_ble_eq_true rfl) ⟨congrArg (fun z => some (Value.int (iI z))) (by clear C hκ hκl hS hB hB1 hB2 hB3 hB4 hB5 hB6 hC hw hX hs hT h81 h82 f3a f3b f3c f3d f3e f3f f3g f3h f3i f3j f3k f3l f4a f4b f4c f4d f4e f4f f4g f4h f4i f4j f4k f4l; first | (simp_all [isI, bI]; done) | (simp_all [isI, bI] <;> omega) | (grind [isI, bI]) | (simp [isI, bI] at * <;> omega)), rfl⟩
    · skip
      have c2b : ¬ (0 ≤ (b) ∧ (b) < w 0 0) := of_decide_eq_false c2
      refine z_iconst C 17 dX0_is_16 rfl ?_
      refine z_goto C 43 dX0_is_17 (by decide) ?_
      exact z_iret C dX0_is_43 rfl (Nat.le_of_ble_eq_true rfl) (Nat.le_of_ble_eq_true rfl) ⟨congrArg (fun z => some (Value.int (iI z))) (by clear C hκ hκl hS hB hB1 hB2 hB3 hB4 hB5 hB6 hC hw hX hs hT h81 h82; first | (simp_all [isI, bI]; done) | (simp_all [isI, bI] <;> omega) | (grind [isI, bI]) | (simp [isI, bI] at * <;> omega)), rfl⟩
set_option maxRecDepth 100000 in
theorem k0_overrides {l : Launch} {θ : zTh} {σ : xA} {w : mW} {M N : zMap} (hX : xM θ σ w (xL w) M) (hs : xS w) (hw : mWF w) (hT : zTb θ) (m : Int) (n : Int) (r_m : inR m) (r_n : inR n)  : ZM θ l yX0_overrides cX0_overrides 5 (some .int) ⟨248, 0, 0, 2552⟩ [.ref (σ 0 (0)), .int (iI (m)), .int (iI (n))] (zP θ M N) (zFn (some (.int (iI (orI w m n)))) (zP θ M N)) := by
  refine z_start (own := RX0) (nm := "overrides") pnX0 rfl rfl (Nat.le_of_ble_eq_true rfl) ?_
  intro κ hκ hκl C
  change Z κ (zP θ M N) 0 0 0 [(0, .ref (σ 0 (0))), (1, .int (iI (m))), (2, .int (iI (n)))] []
  have hS := hs.S
  have hB := hS.B
  obtain ⟨hB1, hB2, hB3, hB4, hB5, hB6⟩ := hS.B
  have hC := hS.C
  obtain ⟨h81, h82⟩ := hs.r8
  refine z_aload_n C 1 0 dX0_overrides_0 rfl rfl ?_
  refine z_iload_n C 2 1 dX0_overrides_1 rfl rfl ?_
  refine z_callV (As := [.int (iI (m))]) (rest := []) C hκ hκl 5 (k0_isMember hX hs hw hT (m) r_m) dX0_overrides_2 q795 q797 qs7 q90 q798 znX0_isMember (Nat.le_of_ble_eq_true rfl) (Nat.le_of_ble_eq_true rfl) (Nat.le_of_ble_eq_true rfl) (Nat.le_of_ble_eq_true rfl) (zrec_P hX.o) rfl rfl (Nat.le_of_ble_eq_true rfl) rfl (fun v9 Q9 h9 => ?_)
  obtain ⟨rfl, rfl⟩ := h9
  refine z_as (st' := [.int (iI (bI (mbB w (m))))]) rfl rfl rfl ?_
  refine z_ifB_eq C 37 8 dX0_overrides_5 (by decide) rfl (fun c1 => ?_) (fun c1 => ?_)
  · skip
    have c1b : ¬ (0 ≤ (m) ∧ (m) < w 11 0) := of_decide_eq_false c1
    refine z_iconst C 38 dX0_overrides_37 rfl ?_
    exact z_iret C dX0_overrides_38 rfl (Nat.le_of_ble_eq_true rfl) (Nat.le_of_ble_eq_true rfl) ⟨congrArg (fun z => some (Value.int (iI z))) (by clear C hκ hκl hS hB hB1 hB2 hB3 hB4 hB5 hB6 hC hw hX hs hT h81 h82; first | (simp_all [orI, bI]; done) | (simp_all [orI, bI] <;> omega) | (grind [orI, bI]) | (simp [orI, bI] at * <;> omega)), rfl⟩
  · skip
    have c1b : (0 ≤ (m) ∧ (m) < w 11 0) := of_decide_eq_true c1
    refine z_aload_n C 9 0 dX0_overrides_8 rfl rfl ?_
    refine z_iload_n C 10 2 dX0_overrides_9 rfl rfl ?_
    refine z_callV (As := [.int (iI (n))]) (rest := []) C hκ hκl 13 (k0_isMember hX hs hw hT (n) r_n) dX0_overrides_10 q795 q797 qs7 q90 q798 znX0_isMember (Nat.le_of_ble_eq_true rfl) (Nat.le_of_ble_eq_true rfl) (Nat.le_of_ble_eq_true rfl) (Nat.le_of_ble_eq_true rfl) (zrec_P hX.o) rfl rfl (Nat.le_of_ble_eq_true rfl) rfl (fun v9 Q9 h9 => ?_)
    obtain ⟨rfl, rfl⟩ := h9
    refine z_as (st' := [.int (iI (bI (mbB w (n))))]) rfl rfl rfl ?_
    refine z_ifB_eq C 37 16 dX0_overrides_13 (by decide) rfl (fun c2 => ?_) (fun c2 => ?_)
    · skip
      have c2b : ¬ (0 ≤ (n) ∧ (n) < w 11 0) := of_decide_eq_false c2
      refine z_iconst C 38 dX0_overrides_37 rfl ?_
      exact z_iret C dX0_overrides_38 rfl (Nat.le_of_ble_eq_true rfl) (Nat.le_of_ble_eq_true rfl) ⟨congrArg (fun z => some (Value.int (iI z))) (by clear C hκ hκl hS hB hB1 hB2 hB3 hB4 hB5 hB6 hC hw hX hs hT h81 h82; first | (simp_all [orI, bI]; done) | (simp_all [orI, bI] <;> omega) | (grind [orI, bI]) | (simp [orI, bI] at * <;> omega)), rfl⟩
    · skip
      have c2b : (0 ≤ (n) ∧ (n) < w 11 0) := of_decide_eq_true c2
      refine z_aload_n C 17 0 dX0_overrides_16 rfl rfl ?_
      refine z_getf C hκ (v := .ref (σ 2 (0))) 20 2 zk_X0 hX.o (by decide) q329 (Or.inl rfl) rfl dX0_overrides_17 rfl ?_
      refine z_iload_n C 21 1 dX0_overrides_20 rfl rfl ?_
      refine x_aM C hκ 22 hX hs (by omega) (by omega) dX0_overrides_21 rfl ?_
      obtain ⟨f3a, f3b, f3c, f3d⟩ := hS.M (show 0 ≤ m by omega) (by omega)
      refine z_getf C hκ (v := .int (iI (bI (mb w 16 (m))))) 25 4 zk_X9 (hX.mem (by omega) (by omega)) (by decide) q664 (Or.inl rfl) rfl dX0_overrides_22 rfl ?_
      refine z_aload_n C 26 0 dX0_overrides_25 rfl rfl ?_
      refine z_getf C hκ (v := .ref (σ 2 (0))) 29 2 zk_X0 hX.o (by decide) q329 (Or.inl rfl) rfl dX0_overrides_26 rfl ?_
      refine z_iload_n C 30 2 dX0_overrides_29 rfl rfl ?_
      refine x_aM C hκ 31 hX hs (by omega) (by omega) dX0_overrides_30 rfl ?_
      obtain ⟨f4a, f4b, f4c, f4d⟩ := hS.M (show 0 ≤ n by omega) (by omega)
      refine z_getf C hκ (v := .int (iI (bI (mb w 16 (n))))) 34 4 zk_X9 (hX.mem (by omega) (by omega)) (by decide) q664 (Or.inl rfl) rfl dX0_overrides_31 rfl ?_
      refine z_icmp_eq C 39 37 dX0_overrides_34 (by decide) (inR_b _) (inR_b _) rfl (fun c5 => ?_) (fun c5 => ?_)
      · skip
        refine z_aload_n C 40 0 dX0_overrides_39 rfl rfl ?_
        refine z_getf C hκ (v := .ref (σ 2 (0))) 43 2 zk_X0 hX.o (by decide) q329 (Or.inl rfl) rfl dX0_overrides_40 rfl ?_
        refine z_iload_n C 44 1 dX0_overrides_43 rfl rfl ?_
        refine x_aM C hκ 45 hX hs (by omega) (by omega) dX0_overrides_44 rfl ?_
        refine z_astore_n (lv' := [(0, .ref (σ 0 (0))), (1, .int (iI (m))), (2, .int (iI (n))), (3, .ref (σ 20 (m)))]) C 46 [1, 2, 3, 0] dX0_overrides_45 (by decide) rfl rfl ?_
        refine z_aload_n C 47 0 dX0_overrides_46 rfl rfl ?_
        refine z_getf C hκ (v := .ref (σ 2 (0))) 50 2 zk_X0 hX.o (by decide) q329 (Or.inl rfl) rfl dX0_overrides_47 rfl ?_
        refine z_iload_n C 51 2 dX0_overrides_50 rfl rfl ?_
        refine x_aM C hκ 52 hX hs (by omega) (by omega) dX0_overrides_51 rfl ?_
        refine z_astore (lv' := [(0, .ref (σ 0 (0))), (1, .int (iI (m))), (2, .int (iI (n))), (3, .ref (σ 20 (m))), (4, .ref (σ 20 (n)))]) C 54 [1, 2, 3, 4, 0] dX0_overrides_52 (by decide) rfl rfl ?_
        refine z_aload_n C 55 3 dX0_overrides_54 rfl rfl ?_
        refine z_getf C hκ (v := .int (iI (bI (mb w 16 (m))))) 58 4 zk_X9 (hX.mem (by omega) (by omega)) (by decide) q664 (Or.inl rfl) rfl dX0_overrides_55 rfl ?_
        refine z_ifB_eq C 106 61 dX0_overrides_58 (by decide) rfl (fun c6 => ?_) (fun c6 => ?_)
        · skip
          have c6b : ¬ (w 16 (m) = 1) := of_decide_eq_false c6
          refine z_aload_n C 107 3 dX0_overrides_106 rfl rfl ?_
          refine z_aload C 109 4 dX0_overrides_107 rfl rfl ?_
          refine z_callV (As := [.ref (σ 20 (n))]) (rest := []) C hκ hκl 112 (k9_overrides hX hs hw hT (m) (n) ⟨by omega, by omega⟩ ⟨by omega, by omega⟩) dX0_overrides_109 q1212 q1213 q1214 q103 q1215 znX9_overrides (Nat.le_of_ble_eq_true rfl) (Nat.le_of_ble_eq_true rfl) (Nat.le_of_ble_eq_true rfl) (Nat.le_of_ble_eq_true rfl) (zrec_P (hX.mem (by omega) (by omega))) rfl rfl (Nat.le_of_ble_eq_true rfl) rfl (fun v9 Q9 h9 => ?_)
          obtain ⟨rfl, rfl⟩ := h9
          refine z_as (st' := [.int (iI (bI (ovB w (m) (n))))]) rfl rfl rfl ?_
          refine z_ifB_eq C 119 115 dX0_overrides_112 (by decide) rfl (fun c7 => ?_) (fun c7 => ?_)
          · skip
            refine z_iconst C 120 dX0_overrides_119 rfl ?_
            exact z_iret C dX0_overrides_120 rfl (Nat.le_of_ble_eq_true rfl) (Nat.le_of_ble_eq_true rfl) ⟨congrArg (fun z => some (Value.int (iI z))) (by clear C hκ hκl hS hB hB1 hB2 hB3 hB4 hB5 hB6 hC hw hX hs hT h81 h82 f3a f3b f3c f3d f4a f4b f4c f4d; first | (simp_all [orI, bI]; done) | (simp_all [orI, bI] <;> omega) | (grind [orI, bI]) | (simp [orI, bI] at * <;> omega)), rfl⟩
          · skip
            refine z_iconst C 116 dX0_overrides_115 rfl ?_
            refine z_goto C 120 dX0_overrides_116 (by decide) ?_
            exact z_iret C dX0_overrides_120 rfl (Nat.le_of_ble_eq_true rfl) (Nat.le_of_ble_eq_true rfl) ⟨congrArg (fun z => some (Value.int (iI z))) (by clear C hκ hκl hS hB hB1 hB2 hB3 hB4 hB5 hB6 hC hw hX hs hT h81 h82 f3a f3b f3c f3d f4a f4b f4c f4d; first | (simp_all [orI, bI]; done) | (simp_all [orI, bI] <;> omega) | (grind [orI, bI]) | (simp [orI, bI] at * <;> omega)), rfl⟩
        · skip
          have c6b : (w 16 (m) = 1) := of_decide_eq_true c6
          refine z_aload_n C 62 3 dX0_overrides_61 rfl rfl ?_
          refine z_getf C hκ (v := .int (iI (w 14 (m)))) 65 2 zk_X9 (hX.mem (by omega) (by omega)) (by decide) q660 (Or.inl rfl) rfl dX0_overrides_62 rfl ?_
          refine z_aload C 67 4 dX0_overrides_65 rfl rfl ?_
          refine z_getf C hκ (v := .int (iI (w 14 (n)))) 70 2 zk_X9 (hX.mem (by omega) (by omega)) (by decide) q660 (Or.inl rfl) rfl dX0_overrides_67 rfl ?_
          refine z_icmp_ne C 104 73 dX0_overrides_70 (by decide) (hw.r _ _ rfl) (hw.r _ _ rfl) rfl (fun c8 => ?_) (fun c8 => ?_)
          · skip
            refine z_iconst C 105 dX0_overrides_104 rfl ?_
            exact z_iret C dX0_overrides_105 rfl (Nat.le_of_ble_eq_true rfl) (Nat.le_of_ble_eq_true rfl) ⟨congrArg (fun z => some (Value.int (iI z))) (by clear C hκ hκl hS hB hB1 hB2 hB3 hB4 hB5 hB6 hC hw hX hs hT h81 h82 f3a f3b f3c f3d f4a f4b f4c f4d; first | (simp_all [orI, bI]; done) | (simp_all [orI, bI] <;> omega) | (grind [orI, bI]) | (simp [orI, bI] at * <;> omega)), rfl⟩
          · skip
            refine z_aload_n C 74 3 dX0_overrides_73 rfl rfl ?_
            refine z_getf C hκ (v := .ref (σ 10 (w 13 (m)))) 77 1 zk_X9 (hX.mem (by omega) (by omega)) (by decide) q657 (Or.inl rfl) rfl dX0_overrides_74 rfl ?_
            refine z_aload C 79 4 dX0_overrides_77 rfl rfl ?_
            refine z_getf C hκ (v := .ref (σ 10 (w 13 (n)))) 82 1 zk_X9 (hX.mem (by omega) (by omega)) (by decide) q657 (Or.inl rfl) rfl dX0_overrides_79 rfl ?_
            have c9i := xo_T hX (a := w 13 (m)) (b := w 13 (n)) (by omega) (by omega) (by omega) (by omega)
            refine z_acmp_eq C (xo σ 10 (w 13 (m))) (xo σ 10 (w 13 (n))) 104 85 dX0_overrides_82 (by decide) rfl (by rw [xo_y (by omega)]; rfl) (by rw [xo_y (by omega)]; rfl) (fun c9 => ?_) (fun c9 => ?_)
            · skip
              have c9b : w 13 (m) = w 13 (n) := c9i.mp c9; clear c9i
              refine z_iconst C 105 dX0_overrides_104 rfl ?_
              exact z_iret C dX0_overrides_105 rfl (Nat.le_of_ble_eq_true rfl) (Nat.le_of_ble_eq_true rfl) ⟨congrArg (fun z => some (Value.int (iI z))) (by clear C hκ hκl hS hB hB1 hB2 hB3 hB4 hB5 hB6 hC hw hX hs hT h81 h82 f3a f3b f3c f3d f4a f4b f4c f4d; first | (simp_all [orI, bI]; done) | (simp_all [orI, bI] <;> omega) | (grind [orI, bI]) | (simp [orI, bI] at * <;> omega)), rfl⟩
            · skip
              have c9b : ¬ (w 13 (m) = w 13 (n)) := fun h9 => c9 (c9i.mpr h9); clear c9i
              refine z_aload_n C 86 3 dX0_overrides_85 rfl rfl ?_
              refine z_getf C hκ (v := .ref (σ 10 (w 13 (m)))) 89 1 zk_X9 (hX.mem (by omega) (by omega)) (by decide) q657 (Or.inl rfl) rfl dX0_overrides_86 rfl ?_
              refine z_aload C 91 4 dX0_overrides_89 rfl rfl ?_
              refine z_getf C hκ (v := .ref (σ 10 (w 13 (n)))) 94 1 zk_X9 (hX.mem (by omega) (by omega)) (by decide) q657 (Or.inl rfl) rfl dX0_overrides_91 rfl ?_
              have hg : giB w (w 13 m) (w 13 n) = isa w (w 13 m) (w 13 n) := gi_88 (by omega) (by omega)
              obtain ⟨f10a, f10b, f10c, f10d, f10e, f10f, f10g, f10h⟩ := hS.T (show 0 ≤ w 13 (m) by omega) (by omega)
              obtain ⟨f10i, f10j, f10k, f10l⟩ := hs.ty (show 0 ≤ w 13 (m) by omega) (by omega)
              obtain ⟨f11a, f11b, f11c, f11d, f11e, f11f, f11g, f11h⟩ := hS.T (show 0 ≤ w 13 (n) by omega) (by omega)
              obtain ⟨f11i, f11j, f11k, f11l⟩ := hs.ty (show 0 ≤ w 13 (n) by omega) (by omega)
              refine xv_is (rest := []) C hκ hκl hX hs hw hT (w 13 (m)) (w 13 (n)) ⟨(by omega), (by omega)⟩ ⟨(by omega), (by omega)⟩ 97 dX0_overrides_94 q557 (Nat.le_of_ble_eq_true rfl) (Nat.le_of_ble_eq_true rfl) (Nat.le_of_ble_eq_true rfl) (Nat.le_of_ble_eq_true rfl) (Nat.le_of_ble_eq_true rfl) rfl ?_
              refine z_as (st' := [.int (iI (bI (giB w (w 13 (m)) (w 13 (n)))))]) rfl rfl rfl ?_
              refine z_ifB_eq C 104 100 dX0_overrides_97 (by decide) rfl (fun c12 => ?_) (fun c12 => ?_)
              · skip
                refine z_iconst C 105 dX0_overrides_104 rfl ?_
                exact z_iret C dX0_overrides_105 rfl (Nat.le_of_ble_eq_true rfl) (Nat.le_of_ble_eq_true rfl) ⟨congrArg (fun z => some (Value.int (iI z))) (by clear C hκ hκl hS hB hB1 hB2 hB3 hB4 hB5 hB6 hC hw hX hs hT h81 h82 f3a f3b f3c f3d f4a f4b f4c f4d f10a f10b f10c f10d f10e f10f f10g f10h f10i f10j f10k f10l f11a f11b f11c f11d f11e f11f f11g f11h f11i f11j f11k f11l; first | (simp_all [orI, bI]; done) | (simp_all [orI, bI] <;> omega) | (grind [orI, bI]) | (simp [orI, bI] at * <;> omega)), rfl⟩
              · skip
                refine z_iconst C 101 dX0_overrides_100 rfl ?_
                refine z_goto C 105 dX0_overrides_101 (by decide) ?_
                exact z_iret C dX0_overrides_105 rfl (Nat.le_of_ble_eq_true rfl) (Nat.le_of_ble_eq_true rfl) ⟨congrArg (fun z => some (Value.int (iI z))) (by clear C hκ hκl hS hB hB1 hB2 hB3 hB4 hB5 hB6 hC hw hX hs hT h81 h82 f3a f3b f3c f3d f4a f4b f4c f4d f10a f10b f10c f10d f10e f10f f10g f10h f10i f10j f10k f10l f11a f11b f11c f11d f11e f11f f11g f11h f11i f11j f11k f11l; first | (simp_all [orI, bI]; done) | (simp_all [orI, bI] <;> omega) | (grind [orI, bI]) | (simp [orI, bI] at * <;> omega)), rfl⟩
      · skip
        refine z_iconst C 38 dX0_overrides_37 rfl ?_
        exact z_iret C dX0_overrides_38 rfl (Nat.le_of_ble_eq_true rfl) (Nat.le_of_ble_eq_true rfl) ⟨congrArg (fun z => some (Value.int (iI z))) (by clear C hκ hκl hS hB hB1 hB2 hB3 hB4 hB5 hB6 hC hw hX hs hT h81 h82 f3a f3b f3c f3d f4a f4b f4c f4d; first | (simp_all [orI, bI]; done) | (simp_all [orI, bI] <;> omega) | (grind [orI, bI]) | (simp [orI, bI] at * <;> omega)), rfl⟩
set_option maxRecDepth 100000 in
theorem k0_may {l : Launch} {θ : zTh} {σ : xA} {w : mW} {M N : zMap} (hX : xM θ σ w (xL w) M) (hs : xS w) (hw : mWF w) (hT : zTb θ) (m : Int) (x : Int) (r_m : inR m) (r_x : inR x)  : ZM θ l yX0_may cX0_may 3 (some .int) ⟨248, 0, 0, 2554⟩ [.ref (σ 0 (0)), .int (iI (m)), .int (iI (x))] (zP θ M N) (zFn (some (.int (iI (myI w m x)))) (zP θ M N)) := by
  refine z_start (own := RX0) (nm := "may") pnX0 rfl rfl (Nat.le_of_ble_eq_true rfl) ?_
  intro κ hκ hκl C
  change Z κ (zP θ M N) 0 0 0 [(0, .ref (σ 0 (0))), (1, .int (iI (m))), (2, .int (iI (x)))] []
  have hS := hs.S
  have hB := hS.B
  obtain ⟨hB1, hB2, hB3, hB4, hB5, hB6⟩ := hS.B
  have hC := hS.C
  obtain ⟨h81, h82⟩ := hs.r8
  refine z_aload_n C 1 0 dX0_may_0 rfl rfl ?_
  refine z_iload_n C 2 1 dX0_may_1 rfl rfl ?_
  refine z_callV (As := [.int (iI (m))]) (rest := []) C hκ hκl 5 (k0_isMember hX hs hw hT (m) r_m) dX0_may_2 q795 q797 qs7 q90 q798 znX0_isMember (Nat.le_of_ble_eq_true rfl) (Nat.le_of_ble_eq_true rfl) (Nat.le_of_ble_eq_true rfl) (Nat.le_of_ble_eq_true rfl) (zrec_P hX.o) rfl rfl (Nat.le_of_ble_eq_true rfl) rfl (fun v9 Q9 h9 => ?_)
  obtain ⟨rfl, rfl⟩ := h9
  refine z_as (st' := [.int (iI (bI (mbB w (m))))]) rfl rfl rfl ?_
  refine z_ifB_eq C 16 8 dX0_may_5 (by decide) rfl (fun c1 => ?_) (fun c1 => ?_)
  · skip
    have c1b : ¬ (0 ≤ (m) ∧ (m) < w 11 0) := of_decide_eq_false c1
    refine z_iconst C 17 dX0_may_16 rfl ?_
    refine z_goto C 43 dX0_may_17 (by decide) ?_
    exact z_iret C dX0_may_43 rfl (Nat.le_of_ble_eq_true rfl) (Nat.le_of_ble_eq_true rfl) ⟨congrArg (fun z => some (Value.int (iI z))) (by clear C hκ hκl hS hB hB1 hB2 hB3 hB4 hB5 hB6 hC hw hX hs hT h81 h82; first | (simp_all [myI, bI]; done) | (simp_all [myI, bI] <;> omega) | (grind [myI, bI]) | (simp [myI, bI] at * <;> omega)), rfl⟩
  · skip
    have c1b : (0 ≤ (m) ∧ (m) < w 11 0) := of_decide_eq_true c1
    refine z_aload_n C 9 0 dX0_may_8 rfl rfl ?_
    refine z_iload_n C 10 2 dX0_may_9 rfl rfl ?_
    refine z_callV (As := [.int (iI (x))]) (rest := []) C hκ hκl 13 (k0_isThing hX hs hw hT (x) r_x) dX0_may_10 q1241 q1243 qs11 q90 q1244 znX0_isThing (Nat.le_of_ble_eq_true rfl) (Nat.le_of_ble_eq_true rfl) (Nat.le_of_ble_eq_true rfl) (Nat.le_of_ble_eq_true rfl) (zrec_P hX.o) rfl rfl (Nat.le_of_ble_eq_true rfl) rfl (fun v9 Q9 h9 => ?_)
    obtain ⟨rfl, rfl⟩ := h9
    refine z_as (st' := [.int (iI (bI (tnB w (x))))]) rfl rfl rfl ?_
    refine z_ifB_ne C 20 16 dX0_may_13 (by decide) rfl (fun c2 => ?_) (fun c2 => ?_)
    · skip
      have c2b : ((x) = -1 ∨ (0 ≤ (x) ∧ (x) < w 27 0)) := of_decide_eq_true c2
      refine z_aload_n C 21 0 dX0_may_20 rfl rfl ?_
      refine z_aload_n C 22 0 dX0_may_21 rfl rfl ?_
      refine z_getf C hκ (v := .ref (σ 2 (0))) 25 2 zk_X0 hX.o (by decide) q329 (Or.inl rfl) rfl dX0_may_22 rfl ?_
      refine z_iload_n C 26 1 dX0_may_25 rfl rfl ?_
      refine x_aM C hκ 27 hX hs (by omega) (by omega) dX0_may_26 rfl ?_
      obtain ⟨f3a, f3b, f3c, f3d⟩ := hS.M (show 0 ≤ m by omega) (by omega)
      refine z_aload_n C 28 0 dX0_may_27 rfl rfl ?_
      refine z_iload_n C 29 2 dX0_may_28 rfl rfl ?_
      refine z_callV (As := [.int (iI (x))]) (rest := [.ref (σ 20 (m)), .ref (σ 0 (0))]) C hκ hκl 32 (k0_thingAt hX hs hw hT (x) r_x ⟨by omega, by omega⟩) dX0_may_29 q1245 q1247 qs12 q90 q1248 znX0_thingAt (Nat.le_of_ble_eq_true rfl) (Nat.le_of_ble_eq_true rfl) (Nat.le_of_ble_eq_true rfl) (Nat.le_of_ble_eq_true rfl) (zrec_P hX.o) rfl rfl (Nat.le_of_ble_eq_true rfl) rfl (fun v9 Q9 h9 => ?_)
      obtain ⟨rfl, rfl⟩ := h9
      refine z_as (st' := [va_rf (xo σ 30 ((x))), .ref (σ 20 (m)), .ref (σ 0 (0))]) rfl rfl rfl ?_
      refine z_callV (As := [.ref (σ 20 (m)), va_rf (xo σ 30 ((x)))]) (rest := []) C hκ hκl 35 (k0_mayBe hX hs hw hT (m) ((x)) ⟨by omega, by omega⟩ ⟨by omega, by omega⟩) dX0_may_32 q1249 q1251 qs13 q90 q1252 znX0_mayBe (Nat.le_of_ble_eq_true rfl) (Nat.le_of_ble_eq_true rfl) (Nat.le_of_ble_eq_true rfl) (Nat.le_of_ble_eq_true rfl) (zrec_P hX.o) rfl rfl (Nat.le_of_ble_eq_true rfl) rfl (fun v9 Q9 h9 => ?_)
      obtain ⟨rfl, rfl⟩ := h9
      refine z_as (st' := [.int (iI (bI (mcB w (m) ((x)))))]) rfl rfl rfl ?_
      refine z_ifB_eq C 42 38 dX0_may_35 (by decide) rfl (fun c4 => ?_) (fun c4 => ?_)
      · skip
        refine z_iconst C 43 dX0_may_42 rfl ?_
        exact z_iret C dX0_may_43 rfl (Nat.le_of_ble_eq_true rfl) (Nat.le_of_ble_eq_true rfl) ⟨congrArg (fun z => some (Value.int (iI z))) (by clear C hκ hκl hS hB hB1 hB2 hB3 hB4 hB5 hB6 hC hw hX hs hT h81 h82 f3a f3b f3c f3d; first | (simp_all [myI, bI]; done) | (simp_all [myI, bI] <;> omega) | (grind [myI, bI]) | (simp [myI, bI] at * <;> omega)), rfl⟩
      · skip
        refine z_iconst C 39 dX0_may_38 rfl ?_
        refine z_goto C 43 dX0_may_39 (by decide) ?_
        exact z_iret C dX0_may_43 rfl (Nat.le_of_ble_eq_true rfl) (Nat.le_of_ble_eq_true rfl) ⟨congrArg (fun z => some (Value.int (iI z))) (by clear C hκ hκl hS hB hB1 hB2 hB3 hB4 hB5 hB6 hC hw hX hs hT h81 h82 f3a f3b f3c f3d; first | (simp_all [myI, bI]; done) | (simp_all [myI, bI] <;> omega) | (grind [myI, bI]) | (simp [myI, bI] at * <;> omega)), rfl⟩
    · skip
      have c2b : ¬ ((x) = -1 ∨ (0 ≤ (x) ∧ (x) < w 27 0)) := of_decide_eq_false c2
      refine z_iconst C 17 dX0_may_16 rfl ?_
      refine z_goto C 43 dX0_may_17 (by decide) ?_
      exact z_iret C dX0_may_43 rfl (Nat.le_of_ble_eq_true rfl) (Nat.le_of_ble_eq_true rfl) ⟨congrArg (fun z => some (Value.int (iI z))) (by clear C hκ hκl hS hB hB1 hB2 hB3 hB4 hB5 hB6 hC hw hX hs hT h81 h82; first | (simp_all [myI, bI]; done) | (simp_all [myI, bI] <;> omega) | (grind [myI, bI]) | (simp [myI, bI] at * <;> omega)), rfl⟩
set_option maxRecDepth 100000 in
theorem k0_kind {l : Launch} {θ : zTh} {σ : xA} {w : mW} {Lf : Int → List Int} {M N : zMap} (hX : xM θ σ w (Lf) M) (hs : xS w) (hw : mWF w) (hT : zTb θ) (s : Int) (r_s : inR s)  : ZM θ l yX0_kind cX0_kind 2 (some .int) ⟨2, 0, 0, 45⟩ [.ref (σ 0 (0)), .int (iI (s))] (zP θ M N) (zFn (some (.int (iI (kdI w s)))) (zP θ M N)) := by
  refine z_start (own := RX0) (nm := "kind") pnX0 rfl rfl (Nat.le_of_ble_eq_true rfl) ?_
  intro κ hκ hκl C
  change Z κ (zP θ M N) 0 0 0 [(0, .ref (σ 0 (0))), (1, .int (iI (s)))] []
  have hS := hs.S
  have hB := hS.B
  obtain ⟨hB1, hB2, hB3, hB4, hB5, hB6⟩ := hS.B
  have hC := hS.C
  obtain ⟨h81, h82⟩ := hs.r8
  refine z_iload_n C 1 1 dX0_kind_0 rfl rfl ?_
  refine z_callS (As := [.int (iI (s))]) (rest := []) C hκ hκl 4 (k0_isSlot hT (s) r_s) dX0_kind_1 q1906 q1907 q90 q1908 znX0_isSlot (Nat.le_of_ble_eq_true rfl) (Nat.le_of_ble_eq_true rfl) (Nat.le_of_ble_eq_true rfl) (Nat.le_of_ble_eq_true rfl) rfl (Nat.le_of_ble_eq_true rfl) rfl (fun v9 Q9 h9 => ?_)
  obtain ⟨rfl, rfl⟩ := h9
  refine z_as (st' := [.int (iI (bI (slB (s))))]) rfl rfl rfl ?_
  refine z_ifB_eq C 19 7 dX0_kind_4 (by decide) rfl (fun c1 => ?_) (fun c1 => ?_)
  · skip
    have c1b : ¬ (0 ≤ (s) ∧ (s) < 8) := of_decide_eq_false c1
    refine z_iconst C 20 dX0_kind_19 rfl ?_
    exact z_iret C dX0_kind_20 rfl (Nat.le_of_ble_eq_true rfl) (Nat.le_of_ble_eq_true rfl) ⟨congrArg (fun z => some (Value.int (iI z))) (by clear C hκ hκl hS hB hB1 hB2 hB3 hB4 hB5 hB6 hC hw hX hs hT h81 h82; first | (simp_all [kdI]; done) | (simp_all [kdI] <;> omega) | (grind [kdI]) | (simp [kdI] at * <;> omega)), rfl⟩
  · skip
    have c1b : (0 ≤ (s) ∧ (s) < 8) := of_decide_eq_true c1
    refine z_aload_n C 8 0 dX0_kind_7 rfl rfl ?_
    refine z_getf C hκ (v := .ref (σ 4 (0))) 11 7 zk_X0 hX.o (by decide) q334 (Or.inl rfl) rfl dX0_kind_8 rfl ?_
    refine z_iload_n C 12 1 dX0_kind_11 rfl rfl ?_
    refine x_aS C hκ 13 hX (by omega) (by omega) dX0_kind_12 rfl ?_
    obtain ⟨f2a, f2b⟩ := hS.L (show 0 ≤ s by omega) (by omega)
    refine z_getf C hκ (v := .int (iI (w 32 (s)))) 16 0 zk_X6 (hX.slot (by omega) (by omega)) (by decide) q247 (Or.inl rfl) rfl dX0_kind_13 rfl ?_
    refine z_goto C 20 dX0_kind_16 (by decide) ?_
    exact z_iret C dX0_kind_20 rfl (Nat.le_of_ble_eq_true rfl) (Nat.le_of_ble_eq_true rfl) ⟨congrArg (fun z => some (Value.int (iI z))) (by clear C hκ hκl hS hB hB1 hB2 hB3 hB4 hB5 hB6 hC hw hX hs hT h81 h82 f2a f2b; first | (simp_all [kdI]; done) | (simp_all [kdI] <;> omega) | (grind [kdI]) | (simp [kdI] at * <;> omega)), rfl⟩
set_option maxRecDepth 100000 in
theorem k0_bits {l : Launch} {θ : zTh} {σ : xA} {w : mW} {Lf : Int → List Int} {M N : zMap} (hX : xM θ σ w (Lf) M) (hs : xS w) (hw : mWF w) (hT : zTb θ) (s : Int) (r_s : inR s)  : ZM θ l yX0_bits cX0_bits 3 (some .long) ⟨2, 0, 0, 45⟩ [.ref (σ 0 (0)), .int (iI (s))] (zP θ M N) (zFn (some (.long (lI (btL w s)))) (zP θ M N)) := by
  refine z_start (own := RX0) (nm := "bits") pnX0 rfl rfl (Nat.le_of_ble_eq_true rfl) ?_
  intro κ hκ hκl C
  change Z κ (zP θ M N) 0 0 0 [(0, .ref (σ 0 (0))), (1, .int (iI (s)))] []
  have hS := hs.S
  have hB := hS.B
  obtain ⟨hB1, hB2, hB3, hB4, hB5, hB6⟩ := hS.B
  have hC := hS.C
  obtain ⟨h81, h82⟩ := hs.r8
  refine z_iload_n C 1 1 dX0_bits_0 rfl rfl ?_
  refine z_callS (As := [.int (iI (s))]) (rest := []) C hκ hκl 4 (k0_isSlot hT (s) r_s) dX0_bits_1 q1906 q1907 q90 q1908 znX0_isSlot (Nat.le_of_ble_eq_true rfl) (Nat.le_of_ble_eq_true rfl) (Nat.le_of_ble_eq_true rfl) (Nat.le_of_ble_eq_true rfl) rfl (Nat.le_of_ble_eq_true rfl) rfl (fun v9 Q9 h9 => ?_)
  obtain ⟨rfl, rfl⟩ := h9
  refine z_as (st' := [.int (iI (bI (slB (s))))]) rfl rfl rfl ?_
  refine z_ifB_ne C 11 7 dX0_bits_4 (by decide) rfl (fun c1 => ?_) (fun c1 => ?_)
  · skip
    have c1b : (0 ≤ (s) ∧ (s) < 8) := of_decide_eq_true c1
    refine z_aload_n C 12 0 dX0_bits_11 rfl rfl ?_
    refine z_getf C hκ (v := .ref (σ 4 (0))) 15 7 zk_X0 hX.o (by decide) q334 (Or.inl rfl) rfl dX0_bits_12 rfl ?_
    refine z_iload_n C 16 1 dX0_bits_15 rfl rfl ?_
    refine x_aS C hκ 17 hX (by omega) (by omega) dX0_bits_16 rfl ?_
    refine z_astore_n (lv' := [(0, .ref (σ 0 (0))), (1, .int (iI (s))), (2, .ref (σ 40 (s)))]) C 18 [1, 2, 0] dX0_bits_17 (by decide) rfl rfl ?_
    refine z_aload_n C 19 2 dX0_bits_18 rfl rfl ?_
    obtain ⟨f2a, f2b⟩ := hS.L (show 0 ≤ s by omega) (by omega)
    refine z_getf C hκ (v := .int (iI (w 32 (s)))) 22 0 zk_X6 (hX.slot (by omega) (by omega)) (by decide) q247 (Or.inl rfl) rfl dX0_bits_19 rfl ?_
    refine z_bipush C 24 dX0_bits_22 (by decide) rfl ?_
    refine z_icmp_eq C 34 27 dX0_bits_24 (by decide) (hw.r _ _ rfl) ⟨by decide, by decide⟩ rfl (fun c3 => ?_) (fun c3 => ?_)
    · skip
      have h33 : -1 ≤ w 33 s ∧ w 33 s < w 27 0 := (hS.L (show 0 ≤ s by omega) (by omega)).2 (by omega)
      refine z_aload_n C 35 2 dX0_bits_34 rfl rfl ?_
      refine z_getf C hκ (v := va_rf (xo σ 30 (w 33 (s)))) 38 2 zk_X6 (hX.slot (by omega) (by omega)) (by decide) q254 (Or.inl rfl) (congrArg (fun z9 => some (va_rf z9)) (if_pos (by omega))) dX0_bits_35 rfl ?_
      rcases Int.lt_or_le (w 33 (s)) 0 with n4 | n4
      · skip
        rw [xo_n n4]
        refine z_as (st' := [.null]) (lv' := [(0, .ref (σ 0 (0))), (1, .int (iI (s))), (2, .ref (σ 40 (s)))]) rfl rfl rfl ?_
        refine z_ifnonnullN C 41 dX0_bits_38 rfl ?_
        refine z_ldc2 (z := (-1)) C 44 dX0_bits_41 q753 (by decide) rfl ?_
        refine z_goto C 55 dX0_bits_44 (by decide) ?_
        exact z_lret C dX0_bits_55 (Nat.le_of_ble_eq_true rfl) (Nat.le_of_ble_eq_true rfl) ⟨congrArg (fun z => some (Value.long (lI z))) (by clear C hκ hκl hS hB hB1 hB2 hB3 hB4 hB5 hB6 hC hw hX hs hT h81 h82 f2a f2b; first | (simp_all [btL]; done) | (simp_all [btL] <;> omega) | (grind [btL]) | (simp [btL] at * <;> omega)), rfl⟩
      · skip
        rw [xo_y n4]
        refine z_as (st' := [.ref (σ 30 (w 33 (s)))]) (lv' := [(0, .ref (σ 0 (0))), (1, .int (iI (s))), (2, .ref (σ 40 (s)))]) rfl rfl rfl ?_
        refine z_ifnonnull C 47 dX0_bits_38 (by decide) ?_
        refine z_aload_n C 48 2 dX0_bits_47 rfl rfl ?_
        refine z_getf C hκ (v := va_rf (xo σ 30 (w 33 (s)))) 51 2 zk_X6 (hX.slot (by omega) (by omega)) (by decide) q254 (Or.inl rfl) (congrArg (fun z9 => some (va_rf z9)) (if_pos (by omega))) dX0_bits_48 rfl ?_
        have y5 : 0 ≤ w 33 (s) := (by omega)
        rw [xo_y y5]
        refine z_as (st' := [.ref (σ 30 (w 33 (s)))]) (lv' := [(0, .ref (σ 0 (0))), (1, .int (iI (s))), (2, .ref (σ 40 (s)))]) rfl rfl rfl ?_
        obtain ⟨f6a, f6b, f6c⟩ := hS.X (show 0 ≤ w 33 (s) by omega) (by omega)
        refine xv_tnum (rest := []) C hκ hκl hX hs hw hT (w 33 (s)) ⟨(by omega), (by omega)⟩ 54 dX0_bits_51 q1291 (Nat.le_of_ble_eq_true rfl) (Nat.le_of_ble_eq_true rfl) (Nat.le_of_ble_eq_true rfl) (Nat.le_of_ble_eq_true rfl) (Nat.le_of_ble_eq_true rfl) rfl ?_
        refine z_as (st' := [.int (iI (w 33 (s)))]) rfl rfl rfl ?_
        refine z_i2l C 55 dX0_bits_54 ⟨by omega, by omega⟩ rfl ?_
        exact z_lret C dX0_bits_55 (Nat.le_of_ble_eq_true rfl) (Nat.le_of_ble_eq_true rfl) ⟨congrArg (fun z => some (Value.long (lI z))) (by clear C hκ hκl hS hB hB1 hB2 hB3 hB4 hB5 hB6 hC hw hX hs hT h81 h82 f2a f2b f6a f6b f6c; first | (simp_all [btL]; done) | (simp_all [btL] <;> omega) | (grind [btL]) | (simp [btL] at * <;> omega)), rfl⟩
    · skip
      refine z_aload_n C 28 2 dX0_bits_27 rfl rfl ?_
      refine z_getf C hκ (v := .long (lI (w 33 (s)))) 31 1 zk_X6 (hX.slot (by omega) (by omega)) (by decide) q250 (Or.inl rfl) (congrArg (fun z9 => some (Value.long (lI z9))) (if_neg (by assumption))) dX0_bits_28 rfl ?_
      refine z_goto C 55 dX0_bits_31 (by decide) ?_
      exact z_lret C dX0_bits_55 (Nat.le_of_ble_eq_true rfl) (Nat.le_of_ble_eq_true rfl) ⟨congrArg (fun z => some (Value.long (lI z))) (by clear C hκ hκl hS hB hB1 hB2 hB3 hB4 hB5 hB6 hC hw hX hs hT h81 h82 f2a f2b; first | (simp_all [btL]; done) | (simp_all [btL] <;> omega) | (grind [btL]) | (simp [btL] at * <;> omega)), rfl⟩
  · skip
    have c1b : ¬ (0 ≤ (s) ∧ (s) < 8) := of_decide_eq_false c1
    refine z_ldc2 (z := (-9223372036854775808)) C 10 dX0_bits_7 q1927 (by decide) rfl ?_
    exact z_lret C dX0_bits_10 (Nat.le_of_ble_eq_true rfl) (Nat.le_of_ble_eq_true rfl) ⟨congrArg (fun z => some (Value.long (lI z))) (by clear C hκ hκl hS hB hB1 hB2 hB3 hB4 hB5 hB6 hC hw hX hs hT h81 h82; first | (simp_all [btL]; done) | (simp_all [btL] <;> omega) | (grind [btL]) | (simp [btL] at * <;> omega)), rfl⟩
set_option maxRecDepth 100000 in
theorem k0_cause_2 {l : Launch} {θ : zTh} {σ : xA} {w : mW} {Lf : Int → List Int} {M N : zMap} (hX : xM θ σ w (Lf) M) (hs : xS w) (hw : mWF w) (hT : zTb θ) (k : Int) (r_k : inR k)  : ZM θ l yX0_cause_2 cX0_cause_2 2 (some .int) ⟨0, 0, 0, 0⟩ [.ref (σ 0 (0)), .int (iI (k))] (zP θ M N) (zFn (some (.int (iI (czI w k)))) (zP θ M N)) := by
  refine z_start (own := RX0) (nm := "cause") pnX0 rfl rfl (Nat.le_of_ble_eq_true rfl) ?_
  intro κ hκ hκl C
  change Z κ (zP θ M N) 0 0 0 [(0, .ref (σ 0 (0))), (1, .int (iI (k)))] []
  have hS := hs.S
  have hB := hS.B
  obtain ⟨hB1, hB2, hB3, hB4, hB5, hB6⟩ := hS.B
  have hC := hS.C
  obtain ⟨h81, h82⟩ := hs.r8
  refine z_iload_n C 1 1 dX0_cause_2_0 rfl rfl ?_
  refine z_if_ne C 11 4 dX0_cause_2_1 (by decide) r_k rfl (fun c1 => ?_) (fun c1 => ?_)
  · skip
    refine z_iload_n C 12 1 dX0_cause_2_11 rfl rfl ?_
    refine z_iconst C 13 dX0_cause_2_12 rfl ?_
    refine z_icmp_ne C 23 16 dX0_cause_2_13 (by decide) r_k ⟨by decide, by decide⟩ rfl (fun c2 => ?_) (fun c2 => ?_)
    · skip
      refine z_iload_n C 24 1 dX0_cause_2_23 rfl rfl ?_
      refine z_iconst C 25 dX0_cause_2_24 rfl ?_
      refine z_icmp_ne C 35 28 dX0_cause_2_25 (by decide) r_k ⟨by decide, by decide⟩ rfl (fun c3 => ?_) (fun c3 => ?_)
      · skip
        refine z_iconst C 36 dX0_cause_2_35 rfl ?_
        exact z_iret C dX0_cause_2_36 rfl (Nat.le_of_ble_eq_true rfl) (Nat.le_of_ble_eq_true rfl) ⟨congrArg (fun z => some (Value.int (iI z))) (by clear C hκ hκl hS hB hB1 hB2 hB3 hB4 hB5 hB6 hC hw hX hs hT h81 h82; first | (simp_all [czI]; done) | (simp_all [czI] <;> omega) | (grind [czI]) | (simp [czI] at * <;> omega)), rfl⟩
      · skip
        refine z_aload_n C 29 0 dX0_cause_2_28 rfl rfl ?_
        refine z_getf C hκ (v := .int (iI (w 39 0))) 32 13 zk_X0 hX.o (by decide) q340 (Or.inl rfl) rfl dX0_cause_2_29 rfl ?_
        refine z_goto C 36 dX0_cause_2_32 (by decide) ?_
        exact z_iret C dX0_cause_2_36 rfl (Nat.le_of_ble_eq_true rfl) (Nat.le_of_ble_eq_true rfl) ⟨congrArg (fun z => some (Value.int (iI z))) (by clear C hκ hκl hS hB hB1 hB2 hB3 hB4 hB5 hB6 hC hw hX hs hT h81 h82; first | (simp_all [czI]; done) | (simp_all [czI] <;> omega) | (grind [czI]) | (simp [czI] at * <;> omega)), rfl⟩
    · skip
      refine z_aload_n C 17 0 dX0_cause_2_16 rfl rfl ?_
      refine z_getf C hκ (v := .int (iI (w 38 0))) 20 12 zk_X0 hX.o (by decide) q339 (Or.inl rfl) rfl dX0_cause_2_17 rfl ?_
      refine z_goto C 36 dX0_cause_2_20 (by decide) ?_
      exact z_iret C dX0_cause_2_36 rfl (Nat.le_of_ble_eq_true rfl) (Nat.le_of_ble_eq_true rfl) ⟨congrArg (fun z => some (Value.int (iI z))) (by clear C hκ hκl hS hB hB1 hB2 hB3 hB4 hB5 hB6 hC hw hX hs hT h81 h82; first | (simp_all [czI]; done) | (simp_all [czI] <;> omega) | (grind [czI]) | (simp [czI] at * <;> omega)), rfl⟩
  · skip
    refine z_aload_n C 5 0 dX0_cause_2_4 rfl rfl ?_
    refine z_getf C hκ (v := .int (iI (w 37 0))) 8 11 zk_X0 hX.o (by decide) q338 (Or.inl rfl) rfl dX0_cause_2_5 rfl ?_
    refine z_goto C 36 dX0_cause_2_8 (by decide) ?_
    exact z_iret C dX0_cause_2_36 rfl (Nat.le_of_ble_eq_true rfl) (Nat.le_of_ble_eq_true rfl) ⟨congrArg (fun z => some (Value.int (iI z))) (by clear C hκ hκl hS hB hB1 hB2 hB3 hB4 hB5 hB6 hC hw hX hs hT h81 h82; first | (simp_all [czI]; done) | (simp_all [czI] <;> omega) | (grind [czI]) | (simp [czI] at * <;> omega)), rfl⟩
