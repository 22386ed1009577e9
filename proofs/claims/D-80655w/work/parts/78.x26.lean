/-! ===== a new method ===== -/
def prG (p q r : Int) (j : Int) : Int := if j = 0 then p else if j = 1 then q else r
def prF (σ : xA) (p q r : Int) (k : Nat) : Nat → Option Nat := fun j => if j < k then some (σ 10 (prG p q r j)) else none
theorem prF_0 {σ : xA} {p q r : Int} : prF σ p q r 0 = fun _ => none := by funext j; unfold prF; rw [if_neg (by omega)]
theorem prF_s {σ : xA} {p q r x : Int} {k : Nat} (hx : x = prG p q r k) : va_up (prF σ p q r k) ((k : Int).toNat) (some (σ 10 x)) = prF σ p q r (k + 1) := by
  funext j; unfold va_up prF
  by_cases h : j = k
  · subst h; rw [if_pos (by omega), if_pos (by omega), hx]
  · rw [if_neg (by omega)]
    by_cases h2 : j < k
    · rw [if_pos h2, if_pos (by omega)]
    · rw [if_neg h2, if_neg (by omega)]
theorem prF_at {σ : xA} {p q r : Int} {k j : Nat} (h : j < k) : prF σ p q r k j = some (σ 10 (prG p q r j)) := if_pos h
def lkR (w : mW) (m nm y c p q r : Int) : Bool := decide (w 14 m = nm ∧ w 17 m = y ∧ w 18 m = c) && allN (fun j => decide (w 19 (3 * m + j) = prG p q r j)) (w 18 m).toNat
theorem lkR_at {w : mW} {m nm y c p q r : Int} {k : Nat} {b : Bool} (hk : (k : Int) ≤ w 18 m) (hb : b = (decide (w 14 m = nm ∧ w 17 m = y ∧ w 18 m = c) && allN (fun j => decide (w 19 (3 * m + j) = prG p q r j)) k)) (h : b = false ∨ w 18 m ≤ k) : b = lkR w m nm y c p q r := by
  unfold lkR
  rcases h with h | h
  · rw [h] at hb ⊢
    rcases Bool.and_eq_false_iff.mp hb.symm with h1 | h1
    · rw [h1]; rfl
    · have : allN (fun j => decide (w 19 (3 * m + j) = prG p q r j)) (w 18 m).toNat = false := by
        cases e : allN (fun j => decide (w 19 (3 * m + j) = prG p q r j)) (w 18 m).toNat with
        | false => rfl
        | true =>
          have h2 := allN_t.mp e
          have h3 : allN (fun j => decide (w 19 (3 * m + j) = prG p q r j)) k = true := allN_t.mpr fun j hj => h2 j (by omega)
          rw [h1] at h3; cases h3
      rw [this, Bool.and_false]
  · rw [hb, show (w 18 m).toNat = k by omega]
def olR (w : mW) (t nm y c p q r : Int) : Nat → Bool := fun k => !mb w 16 k && (decide (w 13 k = t) && lkR w k nm y c p q r)
theorem meP_R {w : mW} {t n y c p q r : Int} (hc : 0 ≤ c ∧ c ≤ 3) (k : Nat) : meP w t n y c p q r k = olR w t n y c p q r k := by
  unfold meP olR lkR
  by_cases h : w 18 k = c
  · rw [h]
    have e : (decide (w 14 k = n ∧ w 17 k = y ∧ c = c)) = (decide (w 14 k = n) && decide (w 17 k = y)) := by simp
    rw [e]
    rcases (show c = 0 ∨ c = 1 ∨ c = 2 ∨ c = 3 by omega) with rfl | rfl | rfl | rfl
    · simp [allN, Bool.and_assoc]
    · simp [allN, prG, Bool.and_assoc]
    · simp [allN, prG, Bool.and_assoc]
    · simp [allN, prG, Bool.and_assoc]
  · simp [h]
theorem meL_t {w : mW} {t n y c p q r : Int} (hc : 0 ≤ c ∧ c ≤ 3) {k : Nat} (hk : (k : Int) < w 11 0) (h : olR w t n y c p q r k = true) : meL w t n y c p q r = true :=
  anyN_t.mpr ⟨k, by omega, by rw [meP_R hc]; exact h⟩
theorem meL_f {w : mW} {t n y c p q r : Int} (hc : 0 ≤ c ∧ c ≤ 3) (h : ∀ k : Nat, (k : Int) < w 11 0 → olR w t n y c p q r k = false) : meL w t n y c p q r = false := by
  cases e : meL w t n y c p q r with
  | false => rfl
  | true =>
    obtain ⟨k, h1, h2⟩ := anyN_t.mp e
    rw [meP_R hc, h k (by omega)] at h2; cases h2
section XRW
variable {κ : zK} {own nm : String} {cc : ByteArray} {nL : Nat} {ret : Option FieldType} {rm : Room} {P : Option Value → (Heap → Prop) → Prop} {n k pc : Nat} {lv : List (Nat × Value)} {st rest : List Value}
variable {θ : zTh} {σ : xA} {w : mW} {Lf : Int → List Int} {M N : zMap} {index : Nat} {ref : String}
/-- a type out of a row of parameters that is none of a member's -/
theorem x_apR (C : ZC κ own nm cc nL ret rm P) (hκ : κ.1 = θ) {a : Nat} {f : Nat → Option Nat} {g : Int → Int} {c i : Int} (q : Nat) (hM : M a = some (.inl (θ.2.1 8, 3, xQ f))) (hf : ∀ j : Nat, (j : Int) < c → f j = some (σ 10 (g j))) (hc : c ≤ 3) (h0 : 0 ≤ i) (h1 : i < c) (d : decode cc pc = .ok (.aaload, 1)) (hq : pc + 1 = q) (kk : Z κ (zP θ M N) n k q lv (.ref (σ 10 (g i)) :: rest)) : Z κ (zP θ M N) n k pc lv (.int (iI i) :: .ref a :: rest) := by
  refine z_qald C hκ (v := .ref (σ 10 (g i))) q 8 hM rfl h0 (by omega) (by decide) ?_ d hq kk
  have e : ((i.toNat : Nat) : Int) = i := by omega
  rw [hf i.toNat (by omega), e]; rfl
end XRW
theorem xBody_0 {σ : xA} {w : mW} {m : Int} (h : w 22 m = 0) : xBody σ w m = .inr (11, [.ref (σ 20 m), .ref (σ 0 0), .ref (σ 0 0)]) := by unfold xBody; simp only [h]; rfl
theorem meA_eq {w : mW} {t n k y c : Int} : meA w t n k y c = (dcB w t && (decide (0 ≤ n ∧ n ≤ 19) && (decide (0 ≤ k ∧ k ≤ 31) && (mbeC w t k && (decide (-1 ≤ y ∧ y ≤ w 0 0 - 1) && decide (0 ≤ c ∧ c ≤ 3)))))) := by
  cases hd : dcB w t with
  | false => simp [meA, hd]
  | true =>
    have h : 0 ≤ t ∧ t < w 0 0 ∧ t ≠ 8 ∧ (w 1 t = 1 ∨ w 1 t = 2 ∨ w 1 t = 3) := of_decide_eq_true hd
    have e1 : clB w t = decide (w 1 t ≠ 3) := by
      have : clB w t = decide (0 ≤ t ∧ t < w 0 0 ∧ (w 1 t = 1 ∨ w 1 t = 2)) := rfl
      rw [this, decide_eq_decide]; omega
    have e2 : (decide (y = -1) || tyB w y) = decide (-1 ≤ y ∧ y ≤ w 0 0 - 1) := by
      unfold tyB; rw [Bool.eq_iff_iff]; simp; omega
    unfold meA mbeB mbeC
    rw [hd, e1, e2]
    simp only [Bool.true_and, Bool.and_assoc]
section MEL
variable {w : mW} {t n k y c p q r : Int}
theorem meW_g {g : Nat} {i : Int} (h : g ≠ 18 ∧ g ≠ 19) : meW w t n k y c p q r g i = dW w t n k y false g i := by
  unfold meW; rw [mset_k (by omega), mset_k (by omega), mset_k (by omega), mset_k (by omega)]
theorem meW_19 {i : Int} (h : i < 3 * w 11 0) : meW w t n k y c p q r 19 i = w 19 i := by
  unfold meW; rw [mset_i (by omega), mset_i (by omega), mset_i (by omega), mset_k (by decide)]; exact dW_k (by decide)
theorem meW_18n {i : Int} (h : i ≠ w 11 0) : meW w t n k y c p q r 18 i = dW w t n k y false 18 i := by
  unfold meW; rw [mset_k (by decide), mset_k (by decide), mset_k (by decide), mset_i h]
theorem meD : (meW w t n k y c p q r 11 0 = w 11 0 + 1 ∧ nwM w (meW w t n k y c p q r) (w 11 0) ∧ meW w t n k y c p q r 12 0 = w 12 0) ∧ (meW w t n k y c p q r 13 (w 11 0) = t ∧ meW w t n k y c p q r 14 (w 11 0) = n ∧ meW w t n k y c p q r 15 (w 11 0) = k ∧ meW w t n k y c p q r 16 (w 11 0) = 0 ∧ meW w t n k y c p q r 17 (w 11 0) = y) ∧ (meW w t n k y c p q r 18 (w 11 0) = c ∧ meW w t n k y c p q r 20 (w 11 0) = 0 ∧ meW w t n k y c p q r 21 (w 11 0) = 0 ∧ meW w t n k y c p q r 22 (w 11 0) = 0) ∧ ∀ j : Int, 0 ≤ j → j < 3 → meW w t n k y c p q r 19 (3 * w 11 0 + j) = prG p q r j := by
  refine ⟨⟨(meW_g (by decide)).trans dW_11, fun g i h1 h2 h3 h4 => ?_, (meW_g (by decide)).trans (dW_k (by decide))⟩, ⟨(meW_g (by decide)).trans dW_13, (meW_g (by decide)).trans dW_14, (meW_g (by decide)).trans dW_15, (meW_g (by decide)).trans dW_16, (meW_g (by decide)).trans dW_17⟩, ⟨?_, (meW_g (by decide)).trans dW_20, (meW_g (by decide)).trans dW_21, (meW_g (by decide)).trans dW_22⟩, fun j h0 h1 => ?_⟩
  · by_cases e19 : g = 19
    · subst e19; exact meW_19 (by omega)
    · by_cases e18 : g = 18
      · subst e18
        have hi : i ≠ w 11 0 := fun z => h3 ⟨by decide, by decide, by decide, z⟩
        exact (meW_18n hi).trans (dW_nw 18 i h1 h2 h3 h4)
      · exact (meW_g ⟨e18, e19⟩).trans (dW_nw g i h1 h2 h3 h4)
  · unfold meW; rw [mset_k (by decide), mset_k (by decide), mset_k (by decide), mset_s]
  · rcases (show j = 0 ∨ j = 1 ∨ j = 2 by omega) with rfl | rfl | rfl
    · unfold meW; rw [mset_i (by omega), mset_i (by omega), Int.add_zero, mset_s]; rfl
    · unfold meW; rw [mset_i (by omega), mset_s]; rfl
    · unfold meW; rw [mset_s]; rfl
end MEL

set_option maxRecDepth 100000 in
theorem k9_isLike_r {l : Launch} {θ : zTh} {σ : xA} {w : mW} {Lf : Int → List Int} {M N : zMap} (hX : xM θ σ w (Lf) M) (hs : xS w) (hw : mWF w) (hT : zTb θ) (m : Int) (a : Nat) (pa : Nat) (f : Nat → Option Nat) (nm : Int) (y : Int) (c : Int) (p : Int) (q : Int) (r : Int) (v0 : Value) (v1 : Value) (v3 : Value) (v4 : Value) (v8 : Value) (v9 : Value) (v10 : Value) (v11 : Value)  (hm : 0 ≤ m ∧ m < w 11 0) (hM : M a = some (.inr (9, [v0, v1, .int (iI (nm)), v3, v4, va_rf (xo σ 10 (y)), .ref (pa), .int (iI (c)), v8, v9, v10, v11]))) (hpa : M pa = some (.inl (θ.2.1 8, 3, xQ f))) (hf : ∀ j : Nat, (j : Int) < c → f j = some (σ 10 (prG p q r j))) (hg : ∀ j : Int, 0 ≤ j → j < c → 0 ≤ prG p q r j ∧ prG p q r j < w 0 0) (hc : 0 ≤ c ∧ c ≤ 3) (hy : -1 ≤ y ∧ y < w 0 0) (hnm : inR nm) : ZM θ l yX9_isLike cX9_isLike 4 (some .boolean) ⟨0, 0, 0, 0⟩ [.ref (σ 20 (m)), .ref (a)] (zP θ M N) (zFn (some (.int (iI (bI (lkR w m nm y c p q r))))) (zP θ M N)) := by
  refine z_start (own := RX9) (nm := "isLike") pnX9 rfl rfl (Nat.le_of_ble_eq_true rfl) ?_
  intro κ hκ hκl C
  change Z κ (zP θ M N) 0 0 0 [(0, .ref (σ 20 (m))), (1, .ref (a))] []
  have hS := hs.S
  have hB := hS.B
  obtain ⟨hB1, hB2, hB3, hB4, hB5, hB6⟩ := hS.B
  have hC := hS.C
  obtain ⟨h81, h82⟩ := hs.r8
  obtain ⟨f1a, f1b, f1c, f1d⟩ := hS.M (show 0 ≤ m by omega) (by omega)
  have L41_2 : ∀ (fu : Nat) (j : Nat) (b : Bool) (hk : (j : Int) ≤ w 18 m) (hb : b = (decide (w 14 m = nm ∧ w 17 m = y ∧ w 18 m = c) && allN (fun j => decide (w 19 (3 * m + j) = prG p q r j)) j)) (he : b = true → w 18 m = c) (hme : (w 18 m).toNat - j < fu), Z κ (zP θ M N) 0 0 41 [(0, .ref (σ 20 (m))), (1, .ref (a)), (2, .int (iI (bI (b)))), (3, .int (iI ((j : Int))))] [] := by
    intro fu
    induction fu with
    | zero => intro j b hk hb he hme; exact absurd hme (Nat.not_lt_zero _)
    | succ fu ih3 =>
      intro j b hk hb he hme
      refine z_iload_n C 42 3 dX9_isLike_41 rfl rfl ?_
      refine z_aload_n C 43 0 dX9_isLike_42 rfl rfl ?_
      refine z_getf C hκ (v := .int (iI (w 18 (m)))) 46 7 zk_X9 (hX.mem (by omega) (by omega)) (by decide) q678 (Or.inl rfl) rfl dX9_isLike_43 rfl ?_
      refine z_icmp_ge C 80 49 dX9_isLike_46 (by decide) ⟨by omega, by omega⟩ (hw.r _ _ rfl) rfl (fun c4 => ?_) (fun c4 => ?_)
      · skip
        refine z_iload_n C 81 2 dX9_isLike_80 rfl rfl ?_
        exact z_iret C dX9_isLike_81 (bI_nar _) (Nat.le_of_ble_eq_true rfl) (Nat.le_of_ble_eq_true rfl) ⟨congrArg (fun b => some (Value.int (iI (bI b)))) (lkR_at hk hb (by first | exact Or.inl (by assumption) | exact Or.inr (by assumption))), rfl⟩
      · skip
        refine z_iload_n C 50 2 dX9_isLike_49 rfl rfl ?_
        refine z_ifB_eq C 80 53 dX9_isLike_50 (by decide) rfl (fun c5 => ?_) (fun c5 => ?_)
        · skip
          refine z_iload_n C 81 2 dX9_isLike_80 rfl rfl ?_
          exact z_iret C dX9_isLike_81 (bI_nar _) (Nat.le_of_ble_eq_true rfl) (Nat.le_of_ble_eq_true rfl) ⟨congrArg (fun b => some (Value.int (iI (bI b)))) (lkR_at hk hb (by first | exact Or.inl (by assumption) | exact Or.inr (by assumption))), rfl⟩
        · skip
          have hq8 := he (by assumption)
          have hz1 := f1d j (by omega) (by omega)
          have hz2 := hg j (by omega) (by omega)
          refine z_aload_n C 54 0 dX9_isLike_53 rfl rfl ?_
          refine z_getf C hκ (v := .ref (σ 21 (m))) 57 6 zk_X9 (hX.mem (by omega) (by omega)) (by decide) q673 (Or.inl rfl) rfl dX9_isLike_54 rfl ?_
          refine z_iload_n C 58 3 dX9_isLike_57 rfl rfl ?_
          refine x_apm C hκ 59 hX hs (by omega) (by omega) (by omega) (by omega) dX9_isLike_58 rfl ?_
          refine z_aload_n C 60 1 dX9_isLike_59 rfl rfl ?_
          refine z_getf C hκ (v := .ref (pa)) 63 6 zk_X9 hM (by decide) q673 (Or.inl rfl) rfl dX9_isLike_60 rfl ?_
          refine z_iload_n C 64 3 dX9_isLike_63 rfl rfl ?_
          refine x_apR (g := prG p q r) C hκ 65 hpa hf hc.2 (by omega) (by omega) dX9_isLike_64 rfl ?_
          have c6i := xo_T hX (a := w 19 (3 * (m) + ((j : Int)))) (b := prG p q r ((j : Int))) (by omega) (by omega) (by omega) (by omega)
          refine z_acmp_ne C (xo σ 10 (w 19 (3 * (m) + ((j : Int))))) (xo σ 10 (prG p q r ((j : Int)))) 72 68 dX9_isLike_65 (by decide) rfl (by rw [xo_y (by omega)]; rfl) (by rw [xo_y (by omega)]; rfl) (fun c6 => ?_) (fun c6 => ?_)
          · skip
            have c6b : ¬ (w 19 (3 * (m) + ((j : Int))) = prG p q r ((j : Int))) := fun h9 => c6 (c6i.mpr h9); clear c6i
            refine z_iconst C 73 dX9_isLike_72 rfl ?_
            refine z_istore_n (lv' := [(0, .ref (σ 20 (m))), (1, .ref (a)), (2, .int (iI (0))), (3, .int (iI ((j : Int))))]) C 74 [1, 2, 0, 3] dX9_isLike_73 (by decide) rfl rfl ?_
            refine z_iinc (lv' := [(0, .ref (σ 20 (m))), (1, .ref (a)), (2, .int (iI (0))), (3, .int (iI (((j : Int)) + 1)))]) C 77 3 [1, 2, 3, 0] dX9_isLike_74 rfl (by decide) rfl rfl ?_
            refine z_goto C 41 dX9_isLike_77 (by decide) ?_
            refine z_as (lv' := [(0, .ref (σ 20 (m))), (1, .ref (a)), (2, .int (iI (bI ((false))))), (3, .int (iI (((j + 1) : Int))))]) rfl rfl rfl ?_
            exact ih3 (j + 1) (false) (by omega) (by clear C hκ hκl hS hB hB1 hB2 hB3 hB4 hB5 hB6 hC hw hX hs hT h81 h82 f1a f1b f1c f1d hM hpa hf hg ih3 hme; first | (simp_all [allN]; done) | (simp_all [allN] <;> omega) | (grind [allN]) | (simp [allN] at * <;> omega)) (fun _ => by omega) (by omega)
          · skip
            have c6b : w 19 (3 * (m) + ((j : Int))) = prG p q r ((j : Int)) := c6i.mp c6; clear c6i
            refine z_iconst C 69 dX9_isLike_68 rfl ?_
            refine z_goto C 73 dX9_isLike_69 (by decide) ?_
            refine z_istore_n (lv' := [(0, .ref (σ 20 (m))), (1, .ref (a)), (2, .int (iI (1))), (3, .int (iI ((j : Int))))]) C 74 [1, 2, 0, 3] dX9_isLike_73 (by decide) rfl rfl ?_
            refine z_iinc (lv' := [(0, .ref (σ 20 (m))), (1, .ref (a)), (2, .int (iI (1))), (3, .int (iI (((j : Int)) + 1)))]) C 77 3 [1, 2, 3, 0] dX9_isLike_74 rfl (by decide) rfl rfl ?_
            refine z_goto C 41 dX9_isLike_77 (by decide) ?_
            refine z_as (lv' := [(0, .ref (σ 20 (m))), (1, .ref (a)), (2, .int (iI (bI ((true))))), (3, .int (iI (((j + 1) : Int))))]) rfl rfl rfl ?_
            exact ih3 (j + 1) (true) (by omega) (by clear C hκ hκl hS hB hB1 hB2 hB3 hB4 hB5 hB6 hC hw hX hs hT h81 h82 f1a f1b f1c f1d hM hpa hf hg ih3 hme; first | (simp_all [allN]; done) | (simp_all [allN] <;> omega) | (grind [allN]) | (simp [allN] at * <;> omega)) (fun _ => by omega) (by omega)
  refine z_aload_n C 1 0 dX9_isLike_0 rfl rfl ?_
  refine z_getf C hκ (v := .int (iI (w 14 (m)))) 4 2 zk_X9 (hX.mem (by omega) (by omega)) (by decide) q659 (Or.inl rfl) rfl dX9_isLike_1 rfl ?_
  refine z_aload_n C 5 1 dX9_isLike_4 rfl rfl ?_
  refine z_getf C hκ (v := .int (iI (nm))) 8 2 zk_X9 hM (by decide) q659 (Or.inl rfl) rfl dX9_isLike_5 rfl ?_
  refine z_icmp_ne C 37 11 dX9_isLike_8 (by decide) (hw.r _ _ rfl) hnm rfl (fun c7 => ?_) (fun c7 => ?_)
  · skip
    refine z_iconst C 38 dX9_isLike_37 rfl ?_
    refine z_istore_n (lv' := [(0, .ref (σ 20 (m))), (1, .ref (a)), (2, .int (iI (0)))]) C 39 [1, 2, 0] dX9_isLike_38 (by decide) rfl rfl ?_
    refine z_iconst C 40 dX9_isLike_39 rfl ?_
    refine z_istore_n (lv' := [(0, .ref (σ 20 (m))), (1, .ref (a)), (2, .int (iI (0))), (3, .int (iI (0)))]) C 41 [1, 2, 3, 0] dX9_isLike_40 (by decide) rfl rfl ?_
    refine z_as (lv' := [(0, .ref (σ 20 (m))), (1, .ref (a)), (2, .int (iI (bI ((false))))), (3, .int (iI (((0) : Int))))]) rfl rfl rfl ?_
    exact L41_2 _ (0) (false) (by omega) (by clear C hκ hκl hS hB hB1 hB2 hB3 hB4 hB5 hB6 hC hw hX hs hT h81 h82 f1a f1b f1c f1d hM hpa hf hg L41_2; first | (simp_all [allN]; done) | (simp_all [allN] <;> omega) | (grind [allN]) | (simp [allN] at * <;> omega)) (by clear C hκ hκl hS hB hB1 hB2 hB3 hB4 hB5 hB6 hC hw hX hs hT h81 h82 f1a f1b f1c f1d hM hpa hf hg L41_2; intro h9; first | omega | cases h9) (Nat.lt_succ_self _)
  · skip
    refine z_aload_n C 12 0 dX9_isLike_11 rfl rfl ?_
    refine z_getf C hκ (v := .int (iI (w 18 (m)))) 15 7 zk_X9 (hX.mem (by omega) (by omega)) (by decide) q678 (Or.inl rfl) rfl dX9_isLike_12 rfl ?_
    refine z_aload_n C 16 1 dX9_isLike_15 rfl rfl ?_
    refine z_getf C hκ (v := .int (iI (c))) 19 7 zk_X9 hM (by decide) q678 (Or.inl rfl) rfl dX9_isLike_16 rfl ?_
    refine z_icmp_ne C 37 22 dX9_isLike_19 (by decide) (hw.r _ _ rfl) ⟨by omega, by omega⟩ rfl (fun c8 => ?_) (fun c8 => ?_)
    · skip
      refine z_iconst C 38 dX9_isLike_37 rfl ?_
      refine z_istore_n (lv' := [(0, .ref (σ 20 (m))), (1, .ref (a)), (2, .int (iI (0)))]) C 39 [1, 2, 0] dX9_isLike_38 (by decide) rfl rfl ?_
      refine z_iconst C 40 dX9_isLike_39 rfl ?_
      refine z_istore_n (lv' := [(0, .ref (σ 20 (m))), (1, .ref (a)), (2, .int (iI (0))), (3, .int (iI (0)))]) C 41 [1, 2, 3, 0] dX9_isLike_40 (by decide) rfl rfl ?_
      refine z_as (lv' := [(0, .ref (σ 20 (m))), (1, .ref (a)), (2, .int (iI (bI ((false))))), (3, .int (iI (((0) : Int))))]) rfl rfl rfl ?_
      exact L41_2 _ (0) (false) (by omega) (by clear C hκ hκl hS hB hB1 hB2 hB3 hB4 hB5 hB6 hC hw hX hs hT h81 h82 f1a f1b f1c f1d hM hpa hf hg L41_2; first | (simp_all [allN]; done) | (simp_all [allN] <;> omega) | (grind [allN]) | (simp [allN] at * <;> omega)) (by clear C hκ hκl hS hB hB1 hB2 hB3 hB4 hB5 hB6 hC hw hX hs hT h81 h82 f1a f1b f1c f1d hM hpa hf hg L41_2; intro h9; first | omega | cases h9) (Nat.lt_succ_self _)
    · skip
      refine z_aload_n C 23 0 dX9_isLike_22 rfl rfl ?_
      refine z_getf C hκ (v := va_rf (xo σ 10 (w 17 (m)))) 26 5 zk_X9 (hX.mem (by omega) (by omega)) (by decide) q667 (Or.inl rfl) rfl dX9_isLike_23 rfl ?_
      refine z_aload_n C 27 1 dX9_isLike_26 rfl rfl ?_
      refine z_getf C hκ (v := va_rf (xo σ 10 (y))) 30 5 zk_X9 hM (by decide) q667 (Or.inl rfl) rfl dX9_isLike_27 rfl ?_
      have c9i := xo_T hX (a := w 17 (m)) (b := y) (by omega) (by omega) (by omega) (by omega)
      refine z_acmp_ne C (xo σ 10 (w 17 (m))) (xo σ 10 (y)) 37 33 dX9_isLike_30 (by decide) rfl rfl rfl (fun c9 => ?_) (fun c9 => ?_)
      · skip
        have c9b : ¬ (w 17 (m) = y) := fun h9 => c9 (c9i.mpr h9); clear c9i
        refine z_iconst C 38 dX9_isLike_37 rfl ?_
        refine z_istore_n (lv' := [(0, .ref (σ 20 (m))), (1, .ref (a)), (2, .int (iI (0)))]) C 39 [1, 2, 0] dX9_isLike_38 (by decide) rfl rfl ?_
        refine z_iconst C 40 dX9_isLike_39 rfl ?_
        refine z_istore_n (lv' := [(0, .ref (σ 20 (m))), (1, .ref (a)), (2, .int (iI (0))), (3, .int (iI (0)))]) C 41 [1, 2, 3, 0] dX9_isLike_40 (by decide) rfl rfl ?_
        refine z_as (lv' := [(0, .ref (σ 20 (m))), (1, .ref (a)), (2, .int (iI (bI ((false))))), (3, .int (iI (((0) : Int))))]) rfl rfl rfl ?_
        exact L41_2 _ (0) (false) (by omega) (by clear C hκ hκl hS hB hB1 hB2 hB3 hB4 hB5 hB6 hC hw hX hs hT h81 h82 f1a f1b f1c f1d hM hpa hf hg L41_2; first | (simp_all [allN]; done) | (simp_all [allN] <;> omega) | (grind [allN]) | (simp [allN] at * <;> omega)) (by clear C hκ hκl hS hB hB1 hB2 hB3 hB4 hB5 hB6 hC hw hX hs hT h81 h82 f1a f1b f1c f1d hM hpa hf hg L41_2; intro h9; first | omega | cases h9) (Nat.lt_succ_self _)
      · skip
        have c9b : w 17 (m) = y := c9i.mp c9; clear c9i
        refine z_iconst C 34 dX9_isLike_33 rfl ?_
        refine z_goto C 38 dX9_isLike_34 (by decide) ?_
        refine z_istore_n (lv' := [(0, .ref (σ 20 (m))), (1, .ref (a)), (2, .int (iI (1)))]) C 39 [1, 2, 0] dX9_isLike_38 (by decide) rfl rfl ?_
        refine z_iconst C 40 dX9_isLike_39 rfl ?_
        refine z_istore_n (lv' := [(0, .ref (σ 20 (m))), (1, .ref (a)), (2, .int (iI (1))), (3, .int (iI (0)))]) C 41 [1, 2, 3, 0] dX9_isLike_40 (by decide) rfl rfl ?_
        refine z_as (lv' := [(0, .ref (σ 20 (m))), (1, .ref (a)), (2, .int (iI (bI ((true))))), (3, .int (iI (((0) : Int))))]) rfl rfl rfl ?_
        exact L41_2 _ (0) (true) (by omega) (by clear C hκ hκl hS hB hB1 hB2 hB3 hB4 hB5 hB6 hC hw hX hs hT h81 h82 f1a f1b f1c f1d hM hpa hf hg L41_2; first | (simp_all [allN]; done) | (simp_all [allN] <;> omega) | (grind [allN]) | (simp [allN] at * <;> omega)) (by clear C hκ hκl hS hB hB1 hB2 hB3 hB4 hB5 hB6 hC hw hX hs hT h81 h82 f1a f1b f1c f1d hM hpa hf hg L41_2; intro h9; first | omega | cases h9) (Nat.lt_succ_self _)
set_option maxRecDepth 100000 in
theorem k0_ownMethod_r {l : Launch} {θ : zTh} {σ : xA} {w : mW} {Lf : Int → List Int} {M N : zMap} (hX : xM θ σ w (Lf) M) (hs : xS w) (hw : mWF w) (hT : zTb θ) (t : Int) (a : Nat) (pa : Nat) (f : Nat → Option Nat) (nm : Int) (y : Int) (c : Int) (p : Int) (q : Int) (r : Int) (v0 : Value) (v1 : Value) (v3 : Value) (v4 : Value) (v8 : Value) (v9 : Value) (v10 : Value) (v11 : Value)  (ht : 0 ≤ t ∧ t < w 0 0) (hM : M a = some (.inr (9, [v0, v1, .int (iI (nm)), v3, v4, va_rf (xo σ 10 (y)), .ref (pa), .int (iI (c)), v8, v9, v10, v11]))) (hpa : M pa = some (.inl (θ.2.1 8, 3, xQ f))) (hf : ∀ j : Nat, (j : Int) < c → f j = some (σ 10 (prG p q r j))) (hg : ∀ j : Int, 0 ≤ j → j < c → 0 ≤ prG p q r j ∧ prG p q r j < w 0 0) (hc : 0 ≤ c ∧ c ≤ 3) (hy : -1 ≤ y ∧ y < w 0 0) (hnm : inR nm) : ZM θ l yX0_ownMethod cX0_ownMethod 4 (some (.object "ReflectMirror$Member")) ⟨1, 0, 0, 23⟩ [.ref (σ 0 (0)), .ref (σ 10 (t)), .ref (a)] (zP θ M N) (fun v9 Q9 => Q9 = zP θ M N ∧ ∃ z : Int, v9 = some (va_rf (xo σ 20 z)) ∧ -1 ≤ z ∧ z < w 11 0 ∧ (z = -1 → ∀ j : Nat, (j : Int) < w 11 0 → olR w t nm y c p q r j = false) ∧ (0 ≤ z → ∃ j : Nat, (j : Int) < w 11 0 ∧ olR w t nm y c p q r j = true)) := by
  refine z_start (own := RX0) (nm := "ownMethod") pnX0 rfl rfl (Nat.le_of_ble_eq_true rfl) ?_
  intro κ hκ hκl C
  change Z κ (zP θ M N) 0 0 0 [(0, .ref (σ 0 (0))), (1, .ref (σ 10 (t))), (2, .ref (a))] []
  have hS := hs.S
  have hB := hS.B
  obtain ⟨hB1, hB2, hB3, hB4, hB5, hB6⟩ := hS.B
  have hC := hS.C
  obtain ⟨h81, h82⟩ := hs.r8
  refine z_iconst C 1 dX0_ownMethod_0 rfl ?_
  refine z_istore_n (lv' := [(0, .ref (σ 0 (0))), (1, .ref (σ 10 (t))), (2, .ref (a)), (3, .int (iI (0)))]) C 2 [1, 2, 3, 0] dX0_ownMethod_1 (by decide) rfl rfl ?_
  have L2_1 : ∀ (fu : Nat) (j : Nat) (hk : (j : Int) ≤ w 11 0) (hn : ∀ i : Nat, i < j → (!mb w 16 i && (decide (w 13 i = t) && lkR w i nm y c p q r)) = false) (hme : (w 11 0).toNat - j < fu), Z κ (zP θ M N) 0 0 2 [(0, .ref (σ 0 (0))), (1, .ref (σ 10 (t))), (2, .ref (a)), (3, .int (iI ((j : Int))))] [] := by
    intro fu
    induction fu with
    | zero => intro j hk hn hme; exact absurd hme (Nat.not_lt_zero _)
    | succ fu ih2 =>
      intro j hk hn hme
      have hn0 := hn; clear hn
      refine z_iload_n C 3 3 dX0_ownMethod_2 rfl rfl ?_
      refine z_aload_n C 4 0 dX0_ownMethod_3 rfl rfl ?_
      refine z_getf C hκ (v := .int (iI (w 11 0))) 7 3 zk_X0 hX.o (by decide) q330 (Or.inl rfl) rfl dX0_ownMethod_4 rfl ?_
      refine z_icmp_ge C 61 10 dX0_ownMethod_7 (by decide) ⟨by omega, by omega⟩ ⟨by omega, by omega⟩ rfl (fun c3 => ?_) (fun c3 => ?_)
      · skip
        refine z_null C 62 dX0_ownMethod_61 rfl ?_
        exact z_aret C dX0_ownMethod_62 (Or.inl ⟨_, rfl⟩) (Or.inl rfl) (Nat.le_of_ble_eq_true rfl) (Nat.le_of_ble_eq_true rfl) ⟨rfl, -1, by rw [xo_n (by decide)]; rfl, by omega, by omega, fun _ j9 h9 => by have := hn0 j9 (by omega); unfold olR; exact this, fun h => absurd h (by decide)⟩
      · skip
        refine z_aload_n C 11 0 dX0_ownMethod_10 rfl rfl ?_
        refine z_getf C hκ (v := .ref (σ 2 (0))) 14 2 zk_X0 hX.o (by decide) q329 (Or.inl rfl) rfl dX0_ownMethod_11 rfl ?_
        refine z_iload_n C 15 3 dX0_ownMethod_14 rfl rfl ?_
        refine x_aM C hκ 16 hX hs (by omega) (by omega) dX0_ownMethod_15 rfl ?_
        obtain ⟨f4a, f4b, f4c, f4d⟩ := hS.M (show 0 ≤ (j : Int) by omega) (by omega)
        refine z_getf C hκ (v := .ref (σ 10 (w 13 ((j : Int))))) 19 1 zk_X9 (hX.mem (by omega) (by omega)) (by decide) q657 (Or.inl rfl) rfl dX0_ownMethod_16 rfl ?_
        refine z_aload_n C 20 1 dX0_ownMethod_19 rfl rfl ?_
        have c5i := xo_T hX (a := w 13 ((j : Int))) (b := t) (by omega) (by omega) (by omega) (by omega)
        refine z_acmp_ne C (xo σ 10 (w 13 ((j : Int)))) (xo σ 10 (t)) 55 23 dX0_ownMethod_20 (by decide) rfl (by rw [xo_y (by omega)]; rfl) (by rw [xo_y (by omega)]; rfl) (fun c5 => ?_) (fun c5 => ?_)
        · skip
          have c5b : ¬ (w 13 ((j : Int)) = t) := fun h9 => c5 (c5i.mpr h9); clear c5i
          refine z_iinc (lv' := [(0, .ref (σ 0 (0))), (1, .ref (σ 10 (t))), (2, .ref (a)), (3, .int (iI (((j : Int)) + 1)))]) C 58 3 [1, 2, 3, 0] dX0_ownMethod_55 rfl (by decide) rfl rfl ?_
          refine z_goto C 2 dX0_ownMethod_58 (by decide) ?_
          refine z_as (lv' := [(0, .ref (σ 0 (0))), (1, .ref (σ 10 (t))), (2, .ref (a)), (3, .int (iI (((j + 1) : Int))))]) rfl rfl rfl ?_
          exact ih2 (j + 1) (by omega) (fun j hj => (Nat.lt_or_eq_of_le (Nat.le_of_lt_succ hj)).elim (hn0 j) (fun h => by rw [h]; clear hn0; clear C hκ hκl hS hB hB1 hB2 hB3 hB4 hB5 hB6 hC hw hX hs hT h81 h82 hM hpa hf hg ih2 hme f4a f4b f4c f4d; first | (simp_all; done) | grind)) (by omega)
        · skip
          have c5b : w 13 ((j : Int)) = t := c5i.mp c5; clear c5i
          refine z_aload_n C 24 0 dX0_ownMethod_23 rfl rfl ?_
          refine z_getf C hκ (v := .ref (σ 2 (0))) 27 2 zk_X0 hX.o (by decide) q329 (Or.inl rfl) rfl dX0_ownMethod_24 rfl ?_
          refine z_iload_n C 28 3 dX0_ownMethod_27 rfl rfl ?_
          refine x_aM C hκ 29 hX hs (by omega) (by omega) dX0_ownMethod_28 rfl ?_
          refine z_getf C hκ (v := .int (iI (bI (mb w 16 ((j : Int)))))) 32 4 zk_X9 (hX.mem (by omega) (by omega)) (by decide) q664 (Or.inl rfl) rfl dX0_ownMethod_29 rfl ?_
          refine z_ifB_ne C 55 35 dX0_ownMethod_32 (by decide) rfl (fun c6 => ?_) (fun c6 => ?_)
          · skip
            have c6b : (w 16 ((j : Int)) = 1) := of_decide_eq_true c6
            refine z_iinc (lv' := [(0, .ref (σ 0 (0))), (1, .ref (σ 10 (t))), (2, .ref (a)), (3, .int (iI (((j : Int)) + 1)))]) C 58 3 [1, 2, 3, 0] dX0_ownMethod_55 rfl (by decide) rfl rfl ?_
            refine z_goto C 2 dX0_ownMethod_58 (by decide) ?_
            refine z_as (lv' := [(0, .ref (σ 0 (0))), (1, .ref (σ 10 (t))), (2, .ref (a)), (3, .int (iI (((j + 1) : Int))))]) rfl rfl rfl ?_
            exact ih2 (j + 1) (by omega) (fun j hj => (Nat.lt_or_eq_of_le (Nat.le_of_lt_succ hj)).elim (hn0 j) (fun h => by rw [h]; clear hn0; clear C hκ hκl hS hB hB1 hB2 hB3 hB4 hB5 hB6 hC hw hX hs hT h81 h82 hM hpa hf hg ih2 hme f4a f4b f4c f4d; first | (simp_all; done) | grind)) (by omega)
          · skip
            have c6b : ¬ (w 16 ((j : Int)) = 1) := of_decide_eq_false c6
            refine z_aload_n C 36 0 dX0_ownMethod_35 rfl rfl ?_
            refine z_getf C hκ (v := .ref (σ 2 (0))) 39 2 zk_X0 hX.o (by decide) q329 (Or.inl rfl) rfl dX0_ownMethod_36 rfl ?_
            refine z_iload_n C 40 3 dX0_ownMethod_39 rfl rfl ?_
            refine x_aM C hκ 41 hX hs (by omega) (by omega) dX0_ownMethod_40 rfl ?_
            refine z_aload_n C 42 2 dX0_ownMethod_41 rfl rfl ?_
            refine z_callV (As := [.ref (a)]) (rest := []) C hκ hκl 45 (k9_isLike_r hX hs hw hT ((j : Int)) (a) (pa) (f) (nm) (y) (c) (p) (q) (r) (v0) (v1) (v3) (v4) (v8) (v9) (v10) (v11) ⟨by omega, by omega⟩ hM hpa hf hg hc hy hnm) dX0_ownMethod_42 q758 q759 q760 q103 q761 znX9_isLike (Nat.le_of_ble_eq_true rfl) (Nat.le_of_ble_eq_true rfl) (Nat.le_of_ble_eq_true rfl) (Nat.le_of_ble_eq_true rfl) (zrec_P (hX.mem (by omega) (by omega))) rfl rfl (Nat.le_of_ble_eq_true rfl) rfl (fun v9 Q9 h9 => ?_)
            obtain ⟨rfl, rfl⟩ := h9
            refine z_as (st' := [.int (iI (bI (lkR w ((j : Int)) (nm) (y) (c) (p) (q) (r))))]) rfl rfl rfl ?_
            refine z_ifB_eq C 55 48 dX0_ownMethod_45 (by decide) rfl (fun c7 => ?_) (fun c7 => ?_)
            · skip
              refine z_iinc (lv' := [(0, .ref (σ 0 (0))), (1, .ref (σ 10 (t))), (2, .ref (a)), (3, .int (iI (((j : Int)) + 1)))]) C 58 3 [1, 2, 3, 0] dX0_ownMethod_55 rfl (by decide) rfl rfl ?_
              refine z_goto C 2 dX0_ownMethod_58 (by decide) ?_
              refine z_as (lv' := [(0, .ref (σ 0 (0))), (1, .ref (σ 10 (t))), (2, .ref (a)), (3, .int (iI (((j + 1) : Int))))]) rfl rfl rfl ?_
              exact ih2 (j + 1) (by omega) (fun j hj => (Nat.lt_or_eq_of_le (Nat.le_of_lt_succ hj)).elim (hn0 j) (fun h => by rw [h]; clear hn0; clear C hκ hκl hS hB hB1 hB2 hB3 hB4 hB5 hB6 hC hw hX hs hT h81 h82 hM hpa hf hg ih2 hme f4a f4b f4c f4d; first | (simp_all; done) | grind)) (by omega)
            · skip
              refine z_aload_n C 49 0 dX0_ownMethod_48 rfl rfl ?_
              refine z_getf C hκ (v := .ref (σ 2 (0))) 52 2 zk_X0 hX.o (by decide) q329 (Or.inl rfl) rfl dX0_ownMethod_49 rfl ?_
              refine z_iload_n C 53 3 dX0_ownMethod_52 rfl rfl ?_
              refine x_aM C hκ 54 hX hs (by omega) (by omega) dX0_ownMethod_53 rfl ?_
              exact z_aret C dX0_ownMethod_54 (Or.inl ⟨_, rfl⟩) (Or.inr ⟨_, rfl⟩) (Nat.le_of_ble_eq_true rfl) (Nat.le_of_ble_eq_true rfl) ⟨rfl, (j : Int), by rw [xo_y (by omega)]; rfl, by omega, by omega, fun h => absurd h (by omega), fun _ => ⟨j, by omega, by clear C hκ hκl hS hB hB1 hB2 hB3 hB4 hB5 hB6 hC hw hX hs hT h81 h82 hM hpa hf hg ih2 hme f4a f4b f4c f4d; unfold olR; simp_all⟩⟩
  refine z_as (lv' := [(0, .ref (σ 0 (0))), (1, .ref (σ 10 (t))), (2, .ref (a)), (3, .int (iI (((0) : Int))))]) rfl rfl rfl ?_
  exact L2_1 _ (0) (by omega) (fun j hj => absurd hj (Nat.not_lt_zero _)) (Nat.lt_succ_self _)
set_option maxRecDepth 100000 in
theorem k0_method {l : Launch} {θ : zTh} {σ : xA} {w : mW} {M N : zMap} (hX : xM θ σ w (xL w) M) (hs : xS w) (hw : mWF w) (hT : zTb θ) (t : Int) (n : Int) (k : Int) (y : Int) (c : Int) (p : Int) (q : Int) (r : Int) (r_t : inR t) (r_n : inR n) (r_k : inR k) (r_y : inR y) (r_c : inR c) (r_p : inR p) (r_q : inR q) (r_r : inR r)  (hUq : xUq w) (hbd : mBd w) : ZM θ l yX0_method cX0_method 11 (some .int) ⟨3, 3, 40, 84⟩ [.ref (σ 0 (0)), .int (iI (t)), .int (iI (n)), .int (iI (k)), .int (iI (y)), .int (iI (c)), .int (iI (p)), .int (iI (q)), .int (iI (r))] (zP θ M N) (xOp θ σ N (meI w t n k y c p q r) (if meO w t n k y c p q r then meW w t n k y c p q r else w)) := by
  refine z_start (own := RX0) (nm := "method") pnX0 rfl rfl (Nat.le_of_ble_eq_true rfl) ?_
  intro κ hκ hκl C
  change Z κ (zP θ M N) 0 0 0 [(0, .ref (σ 0 (0))), (1, .int (iI (t))), (2, .int (iI (n))), (3, .int (iI (k))), (4, .int (iI (y))), (5, .int (iI (c))), (6, .int (iI (p))), (7, .int (iI (q))), (8, .int (iI (r)))] []
  have hS := hs.S
  have hB := hS.B
  obtain ⟨hB1, hB2, hB3, hB4, hB5, hB6⟩ := hS.B
  have hC := hS.C
  obtain ⟨h81, h82⟩ := hs.r8
  have ge0 : zGe M M := zGe.rf
  have L137_1 : ∀ (fu : Nat)  (hA : meA w t n k y c = true) (hB2' : meB w c p q r = true) (hme : 0 < fu), Z κ (zP θ M N) 0 0 137 [(0, .ref (σ 0 (0))), (1, .int (iI (t))), (2, .int (iI (n))), (3, .int (iI (k))), (4, .int (iI (y))), (5, .int (iI (c))), (6, .int (iI (p))), (7, .int (iI (q))), (8, .int (iI (r)))] [] := by
    intro fu
    induction fu with
    | zero => intro hA hB2' hme; exact absurd hme (Nat.not_lt_zero _)
    | succ fu ih2 =>
      intro hA hB2' hme
      have hA9 : (0 ≤ c ∧ c ≤ 3) ∧ (-1 ≤ y ∧ y < w 0 0) ∧ (0 ≤ t ∧ t < w 0 0) := by clear C hκ hκl; unfold meA at hA; simp [tyB, dcB] at hA; omega
      have hgg : ∀ j : Int, 0 ≤ j → j < c → 0 ≤ prG p q r j ∧ prG p q r j < w 0 0 := fun j h0 h1 => by clear C hκ hκl; unfold meB at hB2'; simp [tyB] at hB2'; unfold prG; split; omega; split <;> omega
      have hgp : (0 < c → 0 ≤ p ∧ p < w 0 0) ∧ (1 < c → 0 ≤ q ∧ q < w 0 0) ∧ (2 < c → 0 ≤ r ∧ r < w 0 0) := by clear C hκ hκl; unfold meB at hB2'; simp [tyB] at hB2'; omega
      refine z_new (fs := [.int (iI (0)), .null, .int (iI (0)), .int (iI (0)), .int (iI (0)), .null, .null, .int (iI (0)), .int (iI (0)), .int (iI (0)), .null, .null]) C hκ 140 zk_X9 q149 q647 q103 (fun j9 h9 => match j9, h9 with | 0, _ => rfl | 1, _ => rfl | 2, _ => rfl | 3, _ => rfl | 4, _ => rfl | 5, _ => rfl | 6, _ => rfl | 7, _ => rfl | 8, _ => rfl | 9, _ => rfl | 10, _ => rfl | 11, _ => rfl | (j9 + 12), h9 => absurd h9 (by omega)) (Nat.le_of_ble_eq_true rfl) (Nat.le_of_ble_eq_true rfl) dX0_method_137 rfl (fun a3 a3M a3N => ?_)
      refine z_widen (n' := 1) (k' := 12) (Nat.le_refl _) (Nat.le_refl _) ?_
      have fr4 : xFr σ w (xL w) a3 := hX.fr a3M
      have fr5 : M a3 = none := ge0.no a3M
      obtain ⟨M1, eM1⟩ : ∃ z9 : zMap, zup M a3 (.inr (9, [.int (iI (0)), .null, .int (iI (0)), .int (iI (0)), .int (iI (0)), .null, .null, .int (iI (0)), .int (iI (0)), .int (iI (0)), .null, .null]) : va_E) = z9 := ⟨_, rfl⟩
      rw [eM1]
      have hX6 : xM θ σ w (xL w) M1 := eM1 ▸ hX.up fr4
      have ge7 : zGe M M1 := eM1 ▸ ge0.up fr5
      have o8 : M1 a3 = some (.inr (9, [.int (iI (0)), .null, .int (iI (0)), .int (iI (0)), .int (iI (0)), .null, .null, .int (iI (0)), .int (iI (0)), .int (iI (0)), .null, .null])) := eM1 ▸ zup_s
      refine z_dup C 141 dX0_method_140 rfl rfl ?_
      refine z_aload_n C 142 0 dX0_method_141 rfl rfl ?_
      refine z_getf C hκ (v := .int (iI (w 11 0))) 145 3 zk_X0 hX6.o (by decide) q330 (Or.inl rfl) rfl dX0_method_142 rfl ?_
      refine z_aload_n C 146 0 dX0_method_145 rfl rfl ?_
      refine z_getf C hκ (v := .ref (σ 1 (0))) 149 0 zk_X0 hX6.o (by decide) q325 (Or.inl rfl) rfl dX0_method_146 rfl ?_
      refine z_iload_n C 150 1 dX0_method_149 rfl rfl ?_
      refine x_aT C hκ 151 hX6 hs (by omega) (by omega) dX0_method_150 rfl ?_
      obtain ⟨f9a, f9b, f9c, f9d, f9e, f9f, f9g, f9h⟩ := hS.T (show 0 ≤ t by omega) (by omega)
      obtain ⟨f9i, f9j, f9k, f9l⟩ := hs.ty (show 0 ≤ t by omega) (by omega)
      refine z_iload_n C 152 2 dX0_method_151 rfl rfl ?_
      refine z_iload_n C 153 3 dX0_method_152 rfl rfl ?_
      refine z_iconst C 154 dX0_method_153 rfl ?_
      have J10 : Z κ (zP θ M1 N) 1 12 171 [(0, .ref (σ 0 (0))), (1, .int (iI (t))), (2, .int (iI (n))), (3, .int (iI (k))), (4, .int (iI (y))), (5, .int (iI (c))), (6, .int (iI (p))), (7, .int (iI (q))), (8, .int (iI (r)))] [va_rf (xo σ 10 (y)), .int (iI (0)), .int (iI (k)), .int (iI (n)), .ref (σ 10 (t)), .int (iI (w 11 0)), .ref (a3), .ref (a3)] := by
        refine z_callI (As := [.int (iI (w 11 0)), .ref (σ 10 (t)), .int (iI (n)), .int (iI (k)), .int (iI (0)), va_rf (xo σ 10 (y))]) (rest := [.ref (a3)]) C hκ hκl 174 (k9_init_9 hT (a3) (w 11 0) (σ 10 (t)) (n) (k) (false) (xo σ 10 (y)) ⟨by omega, by omega⟩ r_n r_k o8) dX0_method_171 q648 q649 q103 q650 znX9_init rfl (Nat.le_of_ble_eq_true rfl) (Nat.le_of_ble_eq_true rfl) (Nat.le_of_ble_eq_true rfl) (Nat.le_of_ble_eq_true rfl) rfl (Nat.le_of_ble_eq_true rfl) rfl (fun v9 Q9 h9 => ?_)
        obtain ⟨rfl, Mr11, par11, rfl, fxr11, oar11, hpar11, gpar11, ipar11⟩ := h9
        have ne12 : a3 ≠ par11 := fun z9 => by have z8 := o8; rw [z9, gpar11] at z8; cases z8
        have fr13 : xFr σ w (xL w) par11 := hX6.fr gpar11
        have fr14 : M par11 = none := ge7.no gpar11
        have hX15 : xM θ σ w (xL w) Mr11 := hX6.fx fxr11 fr4
        have ge16 : zGe M Mr11 := ge7.fx fxr11 fr5
        refine z_as (Pic' := zP θ Mr11 N) (st' := [.ref (a3)]) rfl rfl rfl ?_
        refine z_widen (n' := 2) (k' := 15) (Nat.le_refl _) (Nat.le_refl _) ?_
        refine z_astore (lv' := [(0, .ref (σ 0 (0))), (1, .int (iI (t))), (2, .int (iI (n))), (3, .int (iI (k))), (4, .int (iI (y))), (5, .int (iI (c))), (6, .int (iI (p))), (7, .int (iI (q))), (8, .int (iI (r))), (9, .ref (a3))]) C 176 [1, 2, 3, 4, 5, 6, 7, 8, 9, 0] dX0_method_174 (by decide) rfl rfl ?_
        refine z_aload C 178 9 dX0_method_176 rfl rfl ?_
        refine z_iload C 180 5 dX0_method_178 rfl rfl ?_
        refine z_putf (fs' := [.int (iI ((w 11 0))), .ref ((σ 10 (t))), .int (iI (n)), .int (iI (k)), .int (iI (bI (false))), va_rf ((xo σ 10 (y))), .ref (par11), .int (iI (c)), .int (iI (0)), .int (iI (0)), .null, .null]) C hκ 183 7 zk_X9 oar11 (by decide) q680 (Or.inl rfl) rfl rfl rfl (Nat.le_of_ble_eq_true rfl) rfl dX0_method_180 rfl ?_
        obtain ⟨M2, eM2⟩ : ∃ z9 : zMap, zup Mr11 a3 (.inr (9, [.int (iI ((w 11 0))), .ref ((σ 10 (t))), .int (iI (n)), .int (iI (k)), .int (iI (bI (false))), va_rf ((xo σ 10 (y))), .ref (par11), .int (iI (c)), .int (iI (0)), .int (iI (0)), .null, .null]) : va_E) = z9 := ⟨_, rfl⟩
        rw [eM2]
        have o17 : M2 par11 = some (.inl (θ.2.1 8, 3, xQ (fun _ => none))) := eM2 ▸ (zup_n ipar11).trans hpar11
        have hX18 : xM θ σ w (xL w) M2 := eM2 ▸ hX15.up fr4
        have ge19 : zGe M M2 := eM2 ▸ ge16.up fr5
        have o20 : M2 a3 = some (.inr (9, [.int (iI ((w 11 0))), .ref ((σ 10 (t))), .int (iI (n)), .int (iI (k)), .int (iI (bI (false))), va_rf ((xo σ 10 (y))), .ref (par11), .int (iI (c)), .int (iI (0)), .int (iI (0)), .null, .null])) := eM2 ▸ zup_s
        refine z_iconst C 184 dX0_method_183 rfl ?_
        refine z_istore (lv' := [(0, .ref (σ 0 (0))), (1, .int (iI (t))), (2, .int (iI (n))), (3, .int (iI (k))), (4, .int (iI (y))), (5, .int (iI (c))), (6, .int (iI (p))), (7, .int (iI (q))), (8, .int (iI (r))), (9, .ref (a3)), (10, .int (iI (0)))]) C 186 [1, 2, 3, 4, 5, 6, 7, 8, 9, 10, 0] dX0_method_184 (by decide) rfl rfl ?_
        have L186_21 : ∀ (fu : Nat) (j : Nat) (hj : (j : Int) ≤ c) (hme : (c).toNat - j < fu), Z κ (zP θ (zup M2 par11 (.inl (θ.2.1 8, 3, xQ (prF σ p q r (j))) : va_E)) N) 2 15 186 [(0, .ref (σ 0 (0))), (1, .int (iI (t))), (2, .int (iI (n))), (3, .int (iI (k))), (4, .int (iI (y))), (5, .int (iI (c))), (6, .int (iI (p))), (7, .int (iI (q))), (8, .int (iI (r))), (9, .ref (a3)), (10, .int (iI ((j : Int))))] [] := by
          intro fu
          induction fu with
          | zero => intro j hj hme; exact absurd hme (Nat.not_lt_zero _)
          | succ fu ih22 =>
            intro j hj hme
            have hXl : xM θ σ w (xL w) (zup M2 par11 (.inl (θ.2.1 8, 3, xQ (prF σ p q r (j))) : va_E)) := hX18.up fr13
            have hgel : zGe M (zup M2 par11 (.inl (θ.2.1 8, 3, xQ (prF σ p q r (j))) : va_E)) := ge19.up fr14
            have o23 : (zup M2 par11 (.inl (θ.2.1 8, 3, xQ (prF σ p q r (j))) : va_E)) a3 = some (.inr (9, [.int (iI ((w 11 0))), .ref ((σ 10 (t))), .int (iI (n)), .int (iI (k)), .int (iI (bI (false))), va_rf ((xo σ 10 (y))), .ref (par11), .int (iI (c)), .int (iI (0)), .int (iI (0)), .null, .null])) := (zup_n ne12).trans o20
            have hpal : (zup M2 par11 (.inl (θ.2.1 8, 3, xQ (prF σ p q r (j))) : va_E)) par11 = some (.inl (θ.2.1 8, 3, xQ (prF σ p q r (j)))) := zup_s
            refine z_iload C 188 10 dX0_method_186 rfl rfl ?_
            refine z_iload C 190 5 dX0_method_188 rfl rfl ?_
            refine z_icmp_ge C 235 193 dX0_method_190 (by decide) ⟨by omega, by omega⟩ r_c rfl (fun c24 => ?_) (fun c24 => ?_)
            · skip
              have hjc : (j : Int) = c := by omega
              obtain ⟨M3, eM3⟩ : ∃ z9 : zMap, (zup M2 par11 (.inl (θ.2.1 8, 3, xQ (prF σ p q r (j))) : va_E)) = z9 := ⟨_, rfl⟩
              rw [eM3]
              rw [eM3] at hXl hgel hpal o23
              refine z_aload_n C 236 0 dX0_method_235 rfl rfl ?_
              refine z_aload_n C 237 0 dX0_method_236 rfl rfl ?_
              refine z_getf C hκ (v := .ref (σ 1 (0))) 240 0 zk_X0 hXl.o (by decide) q325 (Or.inl rfl) rfl dX0_method_237 rfl ?_
              refine z_iload_n C 241 1 dX0_method_240 rfl rfl ?_
              refine x_aT C hκ 242 hXl hs (by omega) (by omega) dX0_method_241 rfl ?_
              refine z_aload C 244 9 dX0_method_242 rfl rfl ?_
              refine z_callV (As := [.ref (σ 10 (t)), .ref (a3)]) (rest := []) C hκ hκl 247 (k0_ownMethod_r hXl hs hw hT (t) (a3) (par11) (prF σ p q r j) (n) (y) (c) (p) (q) (r) (.int (iI ((w 11 0)))) (.ref ((σ 10 (t)))) (.int (iI (k))) (.int (iI (bI (false)))) (.int (iI (0))) (.int (iI (0))) (.null) (.null) ⟨by omega, by omega⟩ o23 hpal (fun j9 h9 => prF_at (by omega)) hgg ⟨by omega, by omega⟩ ⟨by omega, by omega⟩ r_n) dX0_method_244 q754 q756 qs5 q90 q757 znX0_ownMethod (Nat.le_of_ble_eq_true rfl) (Nat.le_of_ble_eq_true rfl) (Nat.le_of_ble_eq_true rfl) (Nat.le_of_ble_eq_true rfl) (zrec_P hXl.o) rfl rfl (Nat.le_of_ble_eq_true rfl) rfl (fun v9 Q9 h9 => ?_)
              obtain ⟨rfl, z25, rfl, z25a, z25b, z25c, z25d⟩ := h9
              refine z_as (st' := [va_rf (xo σ 20 (z25))]) rfl rfl rfl ?_
              refine z_widen (n' := 2) (k' := 15) (Nat.le_refl _) (Nat.le_refl _) ?_
              rcases Int.lt_or_le (z25) 0 with n26 | n26
              · skip
                rw [xo_n n26]
                refine z_as (st' := [.null]) (lv' := [(0, .ref (σ 0 (0))), (1, .int (iI (t))), (2, .int (iI (n))), (3, .int (iI (k))), (4, .int (iI (y))), (5, .int (iI (c))), (6, .int (iI (p))), (7, .int (iI (q))), (8, .int (iI (r))), (9, .ref (a3)), (10, .int (iI ((j : Int))))]) rfl rfl rfl ?_
                refine z_ifnullN C 253 dX0_method_247 (by decide) ?_
                have hL9 : meL w t n y c p q r = false := meL_f (by omega) (z25c (by omega))
                refine z_aload_n C 254 0 dX0_method_253 rfl rfl ?_
                refine z_getf C hκ (v := .int (iI (w 11 0))) 257 3 zk_X0 hXl.o (by decide) q330 (Or.inl rfl) rfl dX0_method_254 rfl ?_
                refine z_bipush C 259 dX0_method_257 (by decide) rfl ?_
                refine z_icmp_ne C 265 262 dX0_method_259 (by decide) ⟨by omega, by omega⟩ ⟨by decide, by decide⟩ rfl (fun c27 => ?_) (fun c27 => ?_)
                · skip
                  refine z_aload C 267 9 dX0_method_265 rfl rfl ?_
                  refine z_aload C 269 9 dX0_method_267 rfl rfl ?_
                  refine z_bipush C 271 dX0_method_269 (by decide) rfl ?_
                  refine z_callV (As := [.int (iI (16))]) (rest := [.ref (a3)]) C hκ hκl 274 (k9_has_r hT (a3) (16) (k) _ _ _ _ _ _ _ _ _ _ _ ⟨by decide, by decide⟩ o23) dX0_method_271 q711 q712 q713 q103 q714 znX9_has (Nat.le_of_ble_eq_true rfl) (Nat.le_of_ble_eq_true rfl) (Nat.le_of_ble_eq_true rfl) (Nat.le_of_ble_eq_true rfl) (zrec_P o23) rfl rfl (Nat.le_of_ble_eq_true rfl) rfl (fun v9 Q9 h9 => ?_)
                  obtain ⟨rfl, rfl⟩ := h9
                  refine z_as (st' := [.int (iI (bI (decide (zand (k) (16) ≠ 0)))), .ref (a3)]) rfl rfl rfl ?_
                  refine z_ifB_eq C 281 277 dX0_method_274 (by decide) rfl (fun c28 => ?_) (fun c28 => ?_)
                  · skip
                    have c28b : ¬ ((zand (k) (16) ≠ 0)) := of_decide_eq_false c28
                    refine z_new (fs := [.null, .null, .null]) C hκ 284 zk_X11 q762 q763 q105 (fun j9 h9 => match j9, h9 with | 0, _ => rfl | 1, _ => rfl | 2, _ => rfl | (j9 + 3), h9 => absurd h9 (by omega)) (Nat.le_of_ble_eq_true rfl) (Nat.le_of_ble_eq_true rfl) dX0_method_281 rfl (fun a29 a29M a29N => ?_)
                    refine z_widen (n' := 3) (k' := 18) (Nat.le_refl _) (Nat.le_refl _) ?_
                    have ne30 : a3 ≠ a29 := fun z9 => by have z8 := o23; rw [z9, a29M] at z8; cases z8
                    have ne31 : par11 ≠ a29 := fun z9 => by have z8 := hpal; rw [z9, a29M] at z8; cases z8
                    have fr32 : xFr σ w (xL w) a29 := hXl.fr a29M
                    have fr33 : M a29 = none := hgel.no a29M
                    obtain ⟨M4, eM4⟩ : ∃ z9 : zMap, zup M3 a29 (.inr (11, [.null, .null, .null]) : va_E) = z9 := ⟨_, rfl⟩
                    rw [eM4]
                    have o34 : M4 a3 = some (.inr (9, [.int (iI ((w 11 0))), .ref ((σ 10 (t))), .int (iI (n)), .int (iI (k)), .int (iI (bI (false))), va_rf ((xo σ 10 (y))), .ref (par11), .int (iI (c)), .int (iI (0)), .int (iI (0)), .null, .null])) := eM4 ▸ (zup_n ne30).trans o23
                    have o35 : M4 par11 = some (.inl (θ.2.1 8, 3, xQ (prF σ p q r (j)))) := eM4 ▸ (zup_n ne31).trans hpal
                    have hX36 : xM θ σ w (xL w) M4 := eM4 ▸ hXl.up fr32
                    have ge37 : zGe M M4 := eM4 ▸ hgel.up fr33
                    have o38 : M4 a29 = some (.inr (11, [.null, .null, .null])) := eM4 ▸ zup_s
                    refine z_dup C 285 dX0_method_284 rfl rfl ?_
                    refine z_aload_n C 286 0 dX0_method_285 rfl rfl ?_
                    refine z_aload C 288 9 dX0_method_286 rfl rfl ?_
                    refine z_callI (As := [.ref (σ 0 (0)), .ref (a3)]) (rest := [.ref (a29), .ref (a3)]) C hκ hκl 291 (k11_init_11 hT (a29) (σ 0 (0)) (a3) o38) dX0_method_288 q764 q765 q105 q766 znX11_init rfl (Nat.le_of_ble_eq_true rfl) (Nat.le_of_ble_eq_true rfl) (Nat.le_of_ble_eq_true rfl) (Nat.le_of_ble_eq_true rfl) rfl (Nat.le_of_ble_eq_true rfl) rfl (fun v9 Q9 h9 => ?_)
                    obtain ⟨rfl, rfl⟩ := h9
                    obtain ⟨M5, eM5⟩ : ∃ z9 : zMap, zup M4 a29 (.inr (11, [.ref (a3), .ref ((σ 0 (0))), .ref ((σ 0 (0)))]) : va_E) = z9 := ⟨_, rfl⟩
                    rw [eM5]
                    have o39 : M5 a3 = some (.inr (9, [.int (iI ((w 11 0))), .ref ((σ 10 (t))), .int (iI (n)), .int (iI (k)), .int (iI (bI (false))), va_rf ((xo σ 10 (y))), .ref (par11), .int (iI (c)), .int (iI (0)), .int (iI (0)), .null, .null])) := eM5 ▸ (zup_n ne30).trans o34
                    have o40 : M5 par11 = some (.inl (θ.2.1 8, 3, xQ (prF σ p q r (j)))) := eM5 ▸ (zup_n ne31).trans o35
                    have hX41 : xM θ σ w (xL w) M5 := eM5 ▸ hX36.up fr32
                    have ge42 : zGe M M5 := eM5 ▸ ge37.up fr33
                    have o43 : M5 a29 = some (.inr (11, [.ref (a3), .ref ((σ 0 (0))), .ref ((σ 0 (0)))])) := eM5 ▸ zup_s
                    refine z_as (st' := [.ref (a29), .ref (a3)]) rfl rfl rfl ?_
                    refine z_putf (fs' := [.int (iI ((w 11 0))), .ref ((σ 10 (t))), .int (iI (n)), .int (iI (k)), .int (iI (bI (false))), va_rf ((xo σ 10 (y))), .ref (par11), .int (iI (c)), .int (iI (0)), .int (iI (0)), .ref (a29), .null]) C hκ 294 10 zk_X9 o39 (by decide) q683 (Or.inl rfl) rfl rfl rfl (Nat.le_of_ble_eq_true rfl) rfl dX0_method_291 rfl ?_
                    obtain ⟨M6, eM6⟩ : ∃ z9 : zMap, zup M5 a3 (.inr (9, [.int (iI ((w 11 0))), .ref ((σ 10 (t))), .int (iI (n)), .int (iI (k)), .int (iI (bI (false))), va_rf ((xo σ 10 (y))), .ref (par11), .int (iI (c)), .int (iI (0)), .int (iI (0)), .ref (a29), .null]) : va_E) = z9 := ⟨_, rfl⟩
                    rw [eM6]
                    have o44 : M6 a29 = some (.inr (11, [.ref (a3), .ref ((σ 0 (0))), .ref ((σ 0 (0)))])) := eM6 ▸ (zup_n (fun z9 => ne30 z9.symm)).trans o43
                    have o45 : M6 par11 = some (.inl (θ.2.1 8, 3, xQ (prF σ p q r (j)))) := eM6 ▸ (zup_n ipar11).trans o40
                    have hX46 : xM θ σ w (xL w) M6 := eM6 ▸ hX41.up fr4
                    have ge47 : zGe M M6 := eM6 ▸ ge42.up fr5
                    have o48 : M6 a3 = some (.inr (9, [.int (iI ((w 11 0))), .ref ((σ 10 (t))), .int (iI (n)), .int (iI (k)), .int (iI (bI (false))), va_rf ((xo σ 10 (y))), .ref (par11), .int (iI (c)), .int (iI (0)), .int (iI (0)), .ref (a29), .null])) := eM6 ▸ zup_s
                    refine z_aload_n C 295 0 dX0_method_294 rfl rfl ?_
                    refine z_getf C hκ (v := .ref (σ 2 (0))) 298 2 zk_X0 hX46.o (by decide) q329 (Or.inl rfl) rfl dX0_method_295 rfl ?_
                    refine z_aload_n C 299 0 dX0_method_298 rfl rfl ?_
                    refine z_getf C hκ (v := .int (iI (w 11 0))) 302 3 zk_X0 hX46.o (by decide) q330 (Or.inl rfl) rfl dX0_method_299 rfl ?_
                    refine z_aload C 304 9 dX0_method_302 rfl rfl ?_
                    obtain ⟨⟨e11, ag, e12⟩, ⟨e13, e14, e15, e16, e17⟩, ⟨e18, e20, e21, e22⟩, e19⟩ := meD (w := w) (t := t) (n := n) (k := k) (y := y) (c := c) (p := p) (q := q) (r := r)
                    have hcl9 : (meW w t n k y c p q r) 16 (w 11 0) = 1 → hasB (meW w t n k y c p q r) (w 11 0) 4 = false → ∀ x : Int, 0 ≤ x → x < w 27 0 → w 29 x = -1 → (meW w t n k y c p q r) 13 (w 11 0) ∉ xL w (w 28 x) := (fun h9 => absurd (e16.symm.trans h9) (by decide))
                    have hrw : xHasRow (meW w t n k y c p q r) (w 11 0) = false := (by unfold xHasRow; rw [e16]; rfl)
                    have hbw : xHasBody (meW w t n k y c p q r) (w 11 0) = true := (by unfold xHasBody hasB; rw [e15, e16]; simp_all)
                    have hma : M6 a3 = some (.inr (9, xMem (xS2 σ (w 11 0) a3 par11 a29 0) (meW w t n k y c p q r) (w 11 0))) := o48.trans (by rw [xMem_l e13 e14 e15 e16 e17 e18 e20 e21 (Or.inl rfl) (Or.inl rfl) (Or.inl rfl), hrw, hbw]; rfl)
                    obtain ⟨f9, hf9, hX9⟩ := newM_put (w2 := meW w t n k y c p q r) (n := w 11 0) (a := a3) (pa := par11) (b := a29) (r := 0) hs hbd hX46 rfl (by omega) e11 ag hma ⟨_, o45, fun j9 h9 => by rw [e18] at h9; rw [e19 j9 (by omega) (by omega)]; exact prF_at (by omega)⟩ (fun _ => o44.trans (by rw [xBody_0 e22, xS2_20, xS2_o (by omega)])) (fun _ => e22) (fun h => absurd (h.symm.trans hrw) (by decide)) fr4 fr13 (fun _ => fr32) (fun h => absurd (h.symm.trans hrw) (by decide)) hcl9
                    refine z_qast (X := w 11 0) C hκ 305 9 hf9 rfl o48 rfl (by omega) (by omega) (by decide) rfl dX0_method_304 rfl ?_
                    obtain ⟨M7, eM7⟩ : ∃ z9 : zMap, zup M6 (σ 2 (0)) (.inl (θ.2.1 9, 100, xQ (va_up f9 (w 11 0).toNat (some a3))) : va_E) = z9 := ⟨_, rfl⟩
                    rw [eM7]
                    have hM0 : M7 (σ 0 (0)) = _ := eM7 ▸ (zup_n (hX46.ne (Or.inl ⟨by decide, rfl⟩ : xLv w (xL w) 0 0) (Or.inl ⟨by decide, rfl⟩ : xLv w (xL w) 2 0) (by decide))).trans hX46.o
                    have hMa : M7 a3 = _ := eM7 ▸ (zup_n (fun z9 => fr4 _ _ (Or.inl ⟨by decide, rfl⟩ : xLv w (xL w) 2 0) z9.symm)).trans o48
                    refine z_aload_n C 306 0 dX0_method_305 rfl rfl ?_
                    refine z_dup C 307 dX0_method_306 rfl rfl ?_
                    refine z_getf C hκ (v := .int (iI (w 11 0))) 310 3 zk_X0 hM0 (by decide) q330 (Or.inl rfl) rfl dX0_method_307 rfl ?_
                    refine z_iconst C 311 dX0_method_310 rfl ?_
                    refine z_iadd C 312 dX0_method_311 rfl ?_
                    refine z_putf (fs' := [.ref (σ 1 (0)), .int (iI (w 0 0)), .ref (σ 2 (0)), .int (iI ((w 11 0) + (1))), .int (iI (w 12 0)), .ref (σ 3 (0)), .int (iI (w 27 0)), .ref (σ 4 (0)), .ref (σ 10 (w 34 0)), .ref (σ 5 (0)), .ref (σ 6 (0)), .int (iI (w 37 0)), .int (iI (w 38 0)), .int (iI (w 39 0))]) C hκ 315 3 zk_X0 hM0 (by decide) q330 (Or.inl rfl) rfl rfl rfl (Nat.le_of_ble_eq_true rfl) rfl dX0_method_312 rfl ?_
                    obtain ⟨M8, eM8⟩ : ∃ z9 : zMap, zup M7 (σ 0 (0)) (.inr (0, [.ref (σ 1 (0)), .int (iI (w 0 0)), .ref (σ 2 (0)), .int (iI ((w 11 0) + (1))), .int (iI (w 12 0)), .ref (σ 3 (0)), .int (iI (w 27 0)), .ref (σ 4 (0)), .ref (σ 10 (w 34 0)), .ref (σ 5 (0)), .ref (σ 6 (0)), .int (iI (w 37 0)), .int (iI (w 38 0)), .int (iI (w 39 0))]) : va_E) = z9 := ⟨_, rfl⟩
                    rw [eM8]
                    have o49 : M8 (σ 0 (0)) = some (.inr (0, [.ref (σ 1 (0)), .int (iI (w 0 0)), .ref (σ 2 (0)), .int (iI ((w 11 0) + (1))), .int (iI (w 12 0)), .ref (σ 3 (0)), .int (iI (w 27 0)), .ref (σ 4 (0)), .ref (σ 10 (w 34 0)), .ref (σ 5 (0)), .ref (σ 6 (0)), .int (iI (w 37 0)), .int (iI (w 38 0)), .int (iI (w 39 0))])) := eM8 ▸ zup_s
                    have o50 : M8 a3 = _ := eM8 ▸ (zup_n (fun z9 => fr4 _ _ (Or.inl ⟨by decide, rfl⟩ : xLv w (xL w) 0 0) z9.symm)).trans hMa
                    refine z_aload C 317 9 dX0_method_315 rfl rfl ?_
                    refine z_callV (As := []) (rest := []) C hκ hκl 320 (k9_number_r hT (a3) ((w 11 0)) _ _ _ _ _ _ _ _ _ _ _ o50) dX0_method_317 q738 q500 q2572 q103 q502 znX9_number (Nat.le_of_ble_eq_true rfl) (Nat.le_of_ble_eq_true rfl) (Nat.le_of_ble_eq_true rfl) (Nat.le_of_ble_eq_true rfl) (zrec_P o50) rfl rfl (Nat.le_of_ble_eq_true rfl) rfl (fun v9 Q9 h9 => ?_)
                    obtain ⟨rfl, rfl⟩ := h9
                    refine z_as (st' := [.int (iI (((w 11 0))))]) rfl rfl rfl ?_
                    exact z_iret C dX0_method_320 rfl (Nat.le_of_ble_eq_true rfl) (Nat.le_of_ble_eq_true rfl) (by have hO : meO w t n k y c p q r = true := (by unfold meO; simp [hA, hB2', hL9]; omega); unfold meI; rw [if_neg (by simp [hA, hB2']), if_neg (by simp [hL9]), if_neg (by omega), if_pos hO]; exact ⟨rfl, M8, (xS2 σ (w 11 0) a3 par11 a29 0), rfl, xS2_o (by omega), (by rw [← eM8, ← eM7]; (try simp only [zup_up]); exact hX9)⟩)
                  · skip
                    have c28b : ((zand (k) (16) ≠ 0)) := of_decide_eq_true c28
                    refine z_null C 278 dX0_method_277 rfl ?_
                    refine z_goto C 291 dX0_method_278 (by decide) ?_
                    refine z_putf (fs' := [.int (iI ((w 11 0))), .ref ((σ 10 (t))), .int (iI (n)), .int (iI (k)), .int (iI (bI (false))), va_rf ((xo σ 10 (y))), .ref (par11), .int (iI (c)), .int (iI (0)), .int (iI (0)), .null, .null]) C hκ 294 10 zk_X9 o23 (by decide) q683 (Or.inl rfl) rfl rfl rfl (Nat.le_of_ble_eq_true rfl) rfl dX0_method_291 rfl ?_
                    obtain ⟨M9, eM9⟩ : ∃ z9 : zMap, zup M3 a3 (.inr (9, [.int (iI ((w 11 0))), .ref ((σ 10 (t))), .int (iI (n)), .int (iI (k)), .int (iI (bI (false))), va_rf ((xo σ 10 (y))), .ref (par11), .int (iI (c)), .int (iI (0)), .int (iI (0)), .null, .null]) : va_E) = z9 := ⟨_, rfl⟩
                    rw [eM9]
                    have o51 : M9 par11 = some (.inl (θ.2.1 8, 3, xQ (prF σ p q r (j)))) := eM9 ▸ (zup_n ipar11).trans hpal
                    have hX52 : xM θ σ w (xL w) M9 := eM9 ▸ hXl.up fr4
                    have ge53 : zGe M M9 := eM9 ▸ hgel.up fr5
                    have o54 : M9 a3 = some (.inr (9, [.int (iI ((w 11 0))), .ref ((σ 10 (t))), .int (iI (n)), .int (iI (k)), .int (iI (bI (false))), va_rf ((xo σ 10 (y))), .ref (par11), .int (iI (c)), .int (iI (0)), .int (iI (0)), .null, .null])) := eM9 ▸ zup_s
                    refine z_aload_n C 295 0 dX0_method_294 rfl rfl ?_
                    refine z_getf C hκ (v := .ref (σ 2 (0))) 298 2 zk_X0 hX52.o (by decide) q329 (Or.inl rfl) rfl dX0_method_295 rfl ?_
                    refine z_aload_n C 299 0 dX0_method_298 rfl rfl ?_
                    refine z_getf C hκ (v := .int (iI (w 11 0))) 302 3 zk_X0 hX52.o (by decide) q330 (Or.inl rfl) rfl dX0_method_299 rfl ?_
                    refine z_aload C 304 9 dX0_method_302 rfl rfl ?_
                    obtain ⟨⟨e11, ag, e12⟩, ⟨e13, e14, e15, e16, e17⟩, ⟨e18, e20, e21, e22⟩, e19⟩ := meD (w := w) (t := t) (n := n) (k := k) (y := y) (c := c) (p := p) (q := q) (r := r)
                    have hcl9 : (meW w t n k y c p q r) 16 (w 11 0) = 1 → hasB (meW w t n k y c p q r) (w 11 0) 4 = false → ∀ x : Int, 0 ≤ x → x < w 27 0 → w 29 x = -1 → (meW w t n k y c p q r) 13 (w 11 0) ∉ xL w (w 28 x) := (fun h9 => absurd (e16.symm.trans h9) (by decide))
                    have hrw : xHasRow (meW w t n k y c p q r) (w 11 0) = false := (by unfold xHasRow; rw [e16]; rfl)
                    have hbw : xHasBody (meW w t n k y c p q r) (w 11 0) = false := (by unfold xHasBody hasB; rw [e15, e16]; simp_all)
                    have hma : M9 a3 = some (.inr (9, xMem (xS2 σ (w 11 0) a3 par11 0 0) (meW w t n k y c p q r) (w 11 0))) := o54.trans (by rw [xMem_l e13 e14 e15 e16 e17 e18 e20 e21 (Or.inl rfl) (Or.inl rfl) (Or.inl rfl), hrw, hbw]; rfl)
                    obtain ⟨f9, hf9, hX9⟩ := newM_put (w2 := meW w t n k y c p q r) (n := w 11 0) (a := a3) (pa := par11) (b := 0) (r := 0) hs hbd hX52 rfl (by omega) e11 ag hma ⟨_, o51, fun j9 h9 => by rw [e18] at h9; rw [e19 j9 (by omega) (by omega)]; exact prF_at (by omega)⟩ (fun h => absurd (h.symm.trans hbw) (by decide)) (fun _ => e22) (fun h => absurd (h.symm.trans hrw) (by decide)) fr4 fr13 (fun h => absurd (h.symm.trans hbw) (by decide)) (fun h => absurd (h.symm.trans hrw) (by decide)) hcl9
                    refine z_qast (X := w 11 0) C hκ 305 9 hf9 rfl o54 rfl (by omega) (by omega) (by decide) rfl dX0_method_304 rfl ?_
                    obtain ⟨M10, eM10⟩ : ∃ z9 : zMap, zup M9 (σ 2 (0)) (.inl (θ.2.1 9, 100, xQ (va_up f9 (w 11 0).toNat (some a3))) : va_E) = z9 := ⟨_, rfl⟩
                    rw [eM10]
                    have hM0 : M10 (σ 0 (0)) = _ := eM10 ▸ (zup_n (hX52.ne (Or.inl ⟨by decide, rfl⟩ : xLv w (xL w) 0 0) (Or.inl ⟨by decide, rfl⟩ : xLv w (xL w) 2 0) (by decide))).trans hX52.o
                    have hMa : M10 a3 = _ := eM10 ▸ (zup_n (fun z9 => fr4 _ _ (Or.inl ⟨by decide, rfl⟩ : xLv w (xL w) 2 0) z9.symm)).trans o54
                    refine z_aload_n C 306 0 dX0_method_305 rfl rfl ?_
                    refine z_dup C 307 dX0_method_306 rfl rfl ?_
                    refine z_getf C hκ (v := .int (iI (w 11 0))) 310 3 zk_X0 hM0 (by decide) q330 (Or.inl rfl) rfl dX0_method_307 rfl ?_
                    refine z_iconst C 311 dX0_method_310 rfl ?_
                    refine z_iadd C 312 dX0_method_311 rfl ?_
                    refine z_putf (fs' := [.ref (σ 1 (0)), .int (iI (w 0 0)), .ref (σ 2 (0)), .int (iI ((w 11 0) + (1))), .int (iI (w 12 0)), .ref (σ 3 (0)), .int (iI (w 27 0)), .ref (σ 4 (0)), .ref (σ 10 (w 34 0)), .ref (σ 5 (0)), .ref (σ 6 (0)), .int (iI (w 37 0)), .int (iI (w 38 0)), .int (iI (w 39 0))]) C hκ 315 3 zk_X0 hM0 (by decide) q330 (Or.inl rfl) rfl rfl rfl (Nat.le_of_ble_eq_true rfl) rfl dX0_method_312 rfl ?_
                    obtain ⟨M11, eM11⟩ : ∃ z9 : zMap, zup M10 (σ 0 (0)) (.inr (0, [.ref (σ 1 (0)), .int (iI (w 0 0)), .ref (σ 2 (0)), .int (iI ((w 11 0) + (1))), .int (iI (w 12 0)), .ref (σ 3 (0)), .int (iI (w 27 0)), .ref (σ 4 (0)), .ref (σ 10 (w 34 0)), .ref (σ 5 (0)), .ref (σ 6 (0)), .int (iI (w 37 0)), .int (iI (w 38 0)), .int (iI (w 39 0))]) : va_E) = z9 := ⟨_, rfl⟩
                    rw [eM11]
                    have o55 : M11 (σ 0 (0)) = some (.inr (0, [.ref (σ 1 (0)), .int (iI (w 0 0)), .ref (σ 2 (0)), .int (iI ((w 11 0) + (1))), .int (iI (w 12 0)), .ref (σ 3 (0)), .int (iI (w 27 0)), .ref (σ 4 (0)), .ref (σ 10 (w 34 0)), .ref (σ 5 (0)), .ref (σ 6 (0)), .int (iI (w 37 0)), .int (iI (w 38 0)), .int (iI (w 39 0))])) := eM11 ▸ zup_s
                    have o56 : M11 a3 = _ := eM11 ▸ (zup_n (fun z9 => fr4 _ _ (Or.inl ⟨by decide, rfl⟩ : xLv w (xL w) 0 0) z9.symm)).trans hMa
                    refine z_aload C 317 9 dX0_method_315 rfl rfl ?_
                    refine z_callV (As := []) (rest := []) C hκ hκl 320 (k9_number_r hT (a3) ((w 11 0)) _ _ _ _ _ _ _ _ _ _ _ o56) dX0_method_317 q738 q500 q2572 q103 q502 znX9_number (Nat.le_of_ble_eq_true rfl) (Nat.le_of_ble_eq_true rfl) (Nat.le_of_ble_eq_true rfl) (Nat.le_of_ble_eq_true rfl) (zrec_P o56) rfl rfl (Nat.le_of_ble_eq_true rfl) rfl (fun v9 Q9 h9 => ?_)
                    obtain ⟨rfl, rfl⟩ := h9
                    refine z_as (st' := [.int (iI (((w 11 0))))]) rfl rfl rfl ?_
                    exact z_iret C dX0_method_320 rfl (Nat.le_of_ble_eq_true rfl) (Nat.le_of_ble_eq_true rfl) (by have hO : meO w t n k y c p q r = true := (by unfold meO; simp [hA, hB2', hL9]; omega); unfold meI; rw [if_neg (by simp [hA, hB2']), if_neg (by simp [hL9]), if_neg (by omega), if_pos hO]; exact ⟨rfl, M11, (xS2 σ (w 11 0) a3 par11 0 0), rfl, xS2_o (by omega), (by rw [← eM11, ← eM10]; (try simp only [zup_up]); exact hX9)⟩)
                · skip
                  refine z_bipush C 264 dX0_method_262 (by decide) rfl ?_
                  exact z_iret C dX0_method_264 rfl (Nat.le_of_ble_eq_true rfl) (Nat.le_of_ble_eq_true rfl) (by unfold meI meO; rw [if_neg (by simp [hA, hB2']), if_neg (by simp [hL9]), if_pos (by omega), if_neg (by simp; omega)]; exact xOp_same hXl)
              · skip
                rw [xo_y n26]
                refine z_as (st' := [.ref (σ 20 (z25))]) (lv' := [(0, .ref (σ 0 (0))), (1, .int (iI (t))), (2, .int (iI (n))), (3, .int (iI (k))), (4, .int (iI (y))), (5, .int (iI (c))), (6, .int (iI (p))), (7, .int (iI (q))), (8, .int (iI (r))), (9, .ref (a3)), (10, .int (iI ((j : Int))))]) rfl rfl rfl ?_
                refine z_ifnull C 250 dX0_method_247 rfl ?_
                refine z_bipush C 252 dX0_method_250 (by decide) rfl ?_
                exact z_iret C dX0_method_252 rfl (Nat.le_of_ble_eq_true rfl) (Nat.le_of_ble_eq_true rfl) (by have h9 : meL w t n y c p q r = true := (by obtain ⟨j8, h8, h7⟩ := z25d (by omega); exact meL_t (by omega) h8 h7); unfold meI meO; rw [if_neg (by simp [hA, hB2']), if_pos h9, if_neg (by simp [h9])]; exact xOp_same hXl)
            · skip
              refine z_aload C 195 9 dX0_method_193 rfl rfl ?_
              refine z_getf C hκ (v := .ref (par11)) 198 6 zk_X9 o23 (by decide) q676 (Or.inl rfl) rfl dX0_method_195 rfl ?_
              refine z_iload C 200 10 dX0_method_198 rfl rfl ?_
              refine z_aload_n C 201 0 dX0_method_200 rfl rfl ?_
              refine z_getf C hκ (v := .ref (σ 1 (0))) 204 0 zk_X0 hXl.o (by decide) q325 (Or.inl rfl) rfl dX0_method_201 rfl ?_
              refine z_iload C 206 10 dX0_method_204 rfl rfl ?_
              refine z_if_ne C 214 209 dX0_method_206 (by decide) ⟨by omega, by omega⟩ rfl (fun c57 => ?_) (fun c57 => ?_)
              · skip
                refine z_iload C 216 10 dX0_method_214 rfl rfl ?_
                refine z_iconst C 217 dX0_method_216 rfl ?_
                refine z_icmp_ne C 225 220 dX0_method_217 (by decide) ⟨by omega, by omega⟩ ⟨by decide, by decide⟩ rfl (fun c58 => ?_) (fun c58 => ?_)
                · skip
                  refine z_iload C 227 8 dX0_method_225 rfl rfl ?_
                  refine x_aT C hκ 228 hXl hs (by omega) (by omega) dX0_method_227 rfl ?_
                  obtain ⟨f59a, f59b, f59c, f59d, f59e, f59f, f59g, f59h⟩ := hS.T (show 0 ≤ r by omega) (by omega)
                  obtain ⟨f59i, f59j, f59k, f59l⟩ := hs.ty (show 0 ≤ r by omega) (by omega)
                  refine x_astT (x := r) (i := (j : Int)) C hκ hT 229 hpal (hXl.ty (by omega) (by omega)) hs (by omega) (by omega) (by omega) (by omega) (by decide) (prF_s (k := j) (by unfold prG; first | rw [if_pos (by omega)] | rw [if_neg (by omega), if_pos (by omega)] | rw [if_neg (by omega), if_neg (by omega)])) dX0_method_228 rfl ?_
                  refine z_as (Pic' := zP θ (zup M2 par11 (.inl (θ.2.1 8, 3, xQ (prF σ p q r (j + 1))) : va_E)) N) (congrArg (fun z9 => zP θ z9 N) zup_up) rfl rfl ?_
                  refine z_iinc (lv' := [(0, .ref (σ 0 (0))), (1, .int (iI (t))), (2, .int (iI (n))), (3, .int (iI (k))), (4, .int (iI (y))), (5, .int (iI (c))), (6, .int (iI (p))), (7, .int (iI (q))), (8, .int (iI (r))), (9, .ref (a3)), (10, .int (iI (((j : Int)) + 1)))]) C 232 10 [1, 2, 3, 4, 5, 6, 7, 8, 9, 10, 0] dX0_method_229 rfl (by decide) rfl rfl ?_
                  refine z_goto C 186 dX0_method_232 (by decide) ?_
                  refine z_as (lv' := [(0, .ref (σ 0 (0))), (1, .int (iI (t))), (2, .int (iI (n))), (3, .int (iI (k))), (4, .int (iI (y))), (5, .int (iI (c))), (6, .int (iI (p))), (7, .int (iI (q))), (8, .int (iI (r))), (9, .ref (a3)), (10, .int (iI (((j + 1) : Int))))]) rfl rfl rfl ?_
                  exact ih22 (j + 1) (by omega) (by omega)
                · skip
                  refine z_iload C 222 7 dX0_method_220 rfl rfl ?_
                  refine z_goto C 227 dX0_method_222 (by decide) ?_
                  refine x_aT C hκ 228 hXl hs (by omega) (by omega) dX0_method_227 rfl ?_
                  obtain ⟨f60a, f60b, f60c, f60d, f60e, f60f, f60g, f60h⟩ := hS.T (show 0 ≤ q by omega) (by omega)
                  obtain ⟨f60i, f60j, f60k, f60l⟩ := hs.ty (show 0 ≤ q by omega) (by omega)
                  refine x_astT (x := q) (i := (j : Int)) C hκ hT 229 hpal (hXl.ty (by omega) (by omega)) hs (by omega) (by omega) (by omega) (by omega) (by decide) (prF_s (k := j) (by unfold prG; first | rw [if_pos (by omega)] | rw [if_neg (by omega), if_pos (by omega)] | rw [if_neg (by omega), if_neg (by omega)])) dX0_method_228 rfl ?_
                  refine z_as (Pic' := zP θ (zup M2 par11 (.inl (θ.2.1 8, 3, xQ (prF σ p q r (j + 1))) : va_E)) N) (congrArg (fun z9 => zP θ z9 N) zup_up) rfl rfl ?_
                  refine z_iinc (lv' := [(0, .ref (σ 0 (0))), (1, .int (iI (t))), (2, .int (iI (n))), (3, .int (iI (k))), (4, .int (iI (y))), (5, .int (iI (c))), (6, .int (iI (p))), (7, .int (iI (q))), (8, .int (iI (r))), (9, .ref (a3)), (10, .int (iI (((j : Int)) + 1)))]) C 232 10 [1, 2, 3, 4, 5, 6, 7, 8, 9, 10, 0] dX0_method_229 rfl (by decide) rfl rfl ?_
                  refine z_goto C 186 dX0_method_232 (by decide) ?_
                  refine z_as (lv' := [(0, .ref (σ 0 (0))), (1, .int (iI (t))), (2, .int (iI (n))), (3, .int (iI (k))), (4, .int (iI (y))), (5, .int (iI (c))), (6, .int (iI (p))), (7, .int (iI (q))), (8, .int (iI (r))), (9, .ref (a3)), (10, .int (iI (((j + 1) : Int))))]) rfl rfl rfl ?_
                  exact ih22 (j + 1) (by omega) (by omega)
              · skip
                refine z_iload C 211 6 dX0_method_209 rfl rfl ?_
                refine z_goto C 227 dX0_method_211 (by decide) ?_
                refine x_aT C hκ 228 hXl hs (by omega) (by omega) dX0_method_227 rfl ?_
                obtain ⟨f61a, f61b, f61c, f61d, f61e, f61f, f61g, f61h⟩ := hS.T (show 0 ≤ p by omega) (by omega)
                obtain ⟨f61i, f61j, f61k, f61l⟩ := hs.ty (show 0 ≤ p by omega) (by omega)
                refine x_astT (x := p) (i := (j : Int)) C hκ hT 229 hpal (hXl.ty (by omega) (by omega)) hs (by omega) (by omega) (by omega) (by omega) (by decide) (prF_s (k := j) (by unfold prG; first | rw [if_pos (by omega)] | rw [if_neg (by omega), if_pos (by omega)] | rw [if_neg (by omega), if_neg (by omega)])) dX0_method_228 rfl ?_
                refine z_as (Pic' := zP θ (zup M2 par11 (.inl (θ.2.1 8, 3, xQ (prF σ p q r (j + 1))) : va_E)) N) (congrArg (fun z9 => zP θ z9 N) zup_up) rfl rfl ?_
                refine z_iinc (lv' := [(0, .ref (σ 0 (0))), (1, .int (iI (t))), (2, .int (iI (n))), (3, .int (iI (k))), (4, .int (iI (y))), (5, .int (iI (c))), (6, .int (iI (p))), (7, .int (iI (q))), (8, .int (iI (r))), (9, .ref (a3)), (10, .int (iI (((j : Int)) + 1)))]) C 232 10 [1, 2, 3, 4, 5, 6, 7, 8, 9, 10, 0] dX0_method_229 rfl (by decide) rfl rfl ?_
                refine z_goto C 186 dX0_method_232 (by decide) ?_
                refine z_as (lv' := [(0, .ref (σ 0 (0))), (1, .int (iI (t))), (2, .int (iI (n))), (3, .int (iI (k))), (4, .int (iI (y))), (5, .int (iI (c))), (6, .int (iI (p))), (7, .int (iI (q))), (8, .int (iI (r))), (9, .ref (a3)), (10, .int (iI (((j + 1) : Int))))]) rfl rfl rfl ?_
                exact ih22 (j + 1) (by omega) (by omega)
        refine z_as (Pic' := zP θ (zup M2 par11 (.inl (θ.2.1 8, 3, xQ (prF σ p q r (0))) : va_E)) N) (by rw [prF_0, zup_id o17]) rfl rfl ?_
        refine z_as (lv' := [(0, .ref (σ 0 (0))), (1, .int (iI (t))), (2, .int (iI (n))), (3, .int (iI (k))), (4, .int (iI (y))), (5, .int (iI (c))), (6, .int (iI (p))), (7, .int (iI (q))), (8, .int (iI (r))), (9, .ref (a3)), (10, .int (iI (((0) : Int))))]) rfl rfl rfl ?_
        exact L186_21 _ (0) (by omega) (Nat.lt_succ_self _)
      refine z_iload C 156 4 dX0_method_154 rfl rfl ?_
      refine z_iconst C 157 dX0_method_156 rfl ?_
      refine z_icmp_ne C 164 160 dX0_method_157 (by decide) r_y ⟨by decide, by decide⟩ rfl (fun c62 => ?_) (fun c62 => ?_)
      · skip
        refine z_aload_n C 165 0 dX0_method_164 rfl rfl ?_
        refine z_getf C hκ (v := .ref (σ 1 (0))) 168 0 zk_X0 hX6.o (by decide) q325 (Or.inl rfl) rfl dX0_method_165 rfl ?_
        refine z_iload C 170 4 dX0_method_168 rfl rfl ?_
        refine x_aT C hκ 171 hX6 hs (by omega) (by omega) dX0_method_170 rfl ?_
        obtain ⟨f63a, f63b, f63c, f63d, f63e, f63f, f63g, f63h⟩ := hS.T (show 0 ≤ y by omega) (by omega)
        obtain ⟨f63i, f63j, f63k, f63l⟩ := hs.ty (show 0 ≤ y by omega) (by omega)
        refine z_as (st' := [va_rf (xo σ 10 (y)), .int (iI (0)), .int (iI (k)), .int (iI (n)), .ref (σ 10 (t)), .int (iI (w 11 0)), .ref (a3), .ref (a3)]) rfl rfl (by rw [xo_y (by omega)]; rfl) ?_
        exact J10
      · skip
        refine z_null C 161 dX0_method_160 rfl ?_
        refine z_goto C 171 dX0_method_161 (by decide) ?_
        refine z_as (st' := [va_rf (xo σ 10 (y)), .int (iI (0)), .int (iI (k)), .int (iI (n)), .ref (σ 10 (t)), .int (iI (w 11 0)), .ref (a3), .ref (a3)]) rfl rfl (by rw [xo_n (by omega)]; rfl) ?_
        exact J10
  refine z_aload_n C 1 0 dX0_method_0 rfl rfl ?_
  refine z_iload_n C 2 1 dX0_method_1 rfl rfl ?_
  refine z_callV (As := [.int (iI (t))]) (rest := []) C hκ hκl 5 (k0_isType hX hs hw hT (t) r_t) dX0_method_2 q374 q376 qs1 q90 q377 znX0_isType (Nat.le_of_ble_eq_true rfl) (Nat.le_of_ble_eq_true rfl) (Nat.le_of_ble_eq_true rfl) (Nat.le_of_ble_eq_true rfl) (zrec_P hX.o) rfl rfl (Nat.le_of_ble_eq_true rfl) rfl (fun v9 Q9 h9 => ?_)
  obtain ⟨rfl, rfl⟩ := h9
  refine z_as (st' := [.int (iI (bI (tyB w (t))))]) rfl rfl rfl ?_
  refine z_ifB_eq C 57 8 dX0_method_5 (by decide) rfl (fun c64 => ?_) (fun c64 => ?_)
  · skip
    have c64b : ¬ (0 ≤ (t) ∧ (t) < w 0 0) := of_decide_eq_false c64
    refine z_iconst C 58 dX0_method_57 rfl ?_
    exact z_iret C dX0_method_58 rfl (Nat.le_of_ble_eq_true rfl) (Nat.le_of_ble_eq_true rfl) (by have h9 : (meA w t n k y c && meB w c p q r) = false := (by clear C hκ hκl hS hB hB1 hB2 hB3 hB4 hB5 hB6 hC hw hX hs hT h81 h82 L137_1; rw [meA_eq]; unfold meB; first | (simp_all; done) | (have h8 : dcB w t = false := (by unfold dcB; exact decide_eq_false (by omega)); simp [h8]) | (simp_all <;> omega)); unfold meI meO; rw [if_pos (by revert h9; cases meA w t n k y c <;> cases meB w c p q r <;> simp), if_neg (by simp [h9])]; exact xOp_same hX)
  · skip
    have c64b : (0 ≤ (t) ∧ (t) < w 0 0) := of_decide_eq_true c64
    refine z_aload_n C 9 0 dX0_method_8 rfl rfl ?_
    refine z_getf C hκ (v := .ref (σ 1 (0))) 12 0 zk_X0 hX.o (by decide) q325 (Or.inl rfl) rfl dX0_method_9 rfl ?_
    refine z_iload_n C 13 1 dX0_method_12 rfl rfl ?_
    refine x_aT C hκ 14 hX hs (by omega) (by omega) dX0_method_13 rfl ?_
    obtain ⟨f65a, f65b, f65c, f65d, f65e, f65f, f65g, f65h⟩ := hS.T (show 0 ≤ t by omega) (by omega)
    obtain ⟨f65i, f65j, f65k, f65l⟩ := hs.ty (show 0 ≤ t by omega) (by omega)
    refine xv_declares (rest := []) C hκ hκl hX hs hw hT (t)   ⟨(by omega), (by omega)⟩  17 dX0_method_14 q447 (Nat.le_of_ble_eq_true rfl) (Nat.le_of_ble_eq_true rfl) (Nat.le_of_ble_eq_true rfl) (Nat.le_of_ble_eq_true rfl) (Nat.le_of_ble_eq_true rfl) rfl ?_
    refine z_as (st' := [.int (iI (bI (dcB w (t))))]) rfl rfl rfl ?_
    refine z_ifB_eq C 57 20 dX0_method_17 (by decide) rfl (fun c66 => ?_) (fun c66 => ?_)
    · skip
      have c66b : ¬ (0 ≤ (t) ∧ (t) < w 0 0 ∧ (t) ≠ 8 ∧ (w 1 (t) = 1 ∨ w 1 (t) = 2 ∨ w 1 (t) = 3)) := of_decide_eq_false c66
      refine z_iconst C 58 dX0_method_57 rfl ?_
      exact z_iret C dX0_method_58 rfl (Nat.le_of_ble_eq_true rfl) (Nat.le_of_ble_eq_true rfl) (by have h9 : (meA w t n k y c && meB w c p q r) = false := (by clear C hκ hκl hS hB hB1 hB2 hB3 hB4 hB5 hB6 hC hw hX hs hT h81 h82 L137_1 f65a f65b f65c f65d f65e f65f f65g f65h f65i f65j f65k f65l; rw [meA_eq]; unfold meB; first | (simp_all; done) | (have h8 : dcB w t = false := (by unfold dcB; exact decide_eq_false (by omega)); simp [h8]) | (simp_all <;> omega)); unfold meI meO; rw [if_pos (by revert h9; cases meA w t n k y c <;> cases meB w c p q r <;> simp), if_neg (by simp [h9])]; exact xOp_same hX)
    · skip
      have c66b : (0 ≤ (t) ∧ (t) < w 0 0 ∧ (t) ≠ 8 ∧ (w 1 (t) = 1 ∨ w 1 (t) = 2 ∨ w 1 (t) = 3)) := of_decide_eq_true c66
      refine z_iload_n C 21 2 dX0_method_20 rfl rfl ?_
      refine z_i2l C 22 dX0_method_21 r_n rfl ?_
      refine z_lconst (x := 0) C 23 dX0_method_22 rfl rfl ?_
      refine z_ldc2 (z := 19) C 26 dX0_method_23 q641 (by decide) rfl ?_
      refine z_callS (As := [.long (lI (n)), .long (lI (0)), .long (lI (19))]) (rest := []) C hκ hκl 29 (k0_isIn hT (n) (0) (19) (inR_L r_n) ⟨by decide, by decide⟩ ⟨by decide, by decide⟩) dX0_method_26 q378 q379 q90 q380 znX0_isIn (Nat.le_of_ble_eq_true rfl) (Nat.le_of_ble_eq_true rfl) (Nat.le_of_ble_eq_true rfl) (Nat.le_of_ble_eq_true rfl) rfl (Nat.le_of_ble_eq_true rfl) rfl (fun v9 Q9 h9 => ?_)
      obtain ⟨rfl, rfl⟩ := h9
      refine z_as (st' := [.int (iI (bI (decide ((0) ≤ (n) ∧ (n) ≤ (19)))))]) rfl rfl rfl ?_
      refine z_ifB_eq C 57 32 dX0_method_29 (by decide) rfl (fun c67 => ?_) (fun c67 => ?_)
      · skip
        have c67b : ¬ (((0) ≤ (n) ∧ (n) ≤ (19))) := of_decide_eq_false c67
        refine z_iconst C 58 dX0_method_57 rfl ?_
        exact z_iret C dX0_method_58 rfl (Nat.le_of_ble_eq_true rfl) (Nat.le_of_ble_eq_true rfl) (by have h9 : (meA w t n k y c && meB w c p q r) = false := (by clear C hκ hκl hS hB hB1 hB2 hB3 hB4 hB5 hB6 hC hw hX hs hT h81 h82 L137_1 f65a f65b f65c f65d f65e f65f f65g f65h f65i f65j f65k f65l; rw [meA_eq]; unfold meB; first | (simp_all; done) | (have h8 : dcB w t = false := (by unfold dcB; exact decide_eq_false (by omega)); simp [h8]) | (simp_all <;> omega)); unfold meI meO; rw [if_pos (by revert h9; cases meA w t n k y c <;> cases meB w c p q r <;> simp), if_neg (by simp [h9])]; exact xOp_same hX)
      · skip
        have c67b : (((0) ≤ (n) ∧ (n) ≤ (19))) := of_decide_eq_true c67
        refine z_iload_n C 33 3 dX0_method_32 rfl rfl ?_
        refine z_i2l C 34 dX0_method_33 r_k rfl ?_
        refine z_lconst (x := 0) C 35 dX0_method_34 rfl rfl ?_
        refine z_ldc2 (z := 31) C 38 dX0_method_35 q749 (by decide) rfl ?_
        refine z_callS (As := [.long (lI (k)), .long (lI (0)), .long (lI (31))]) (rest := []) C hκ hκl 41 (k0_isIn hT (k) (0) (31) (inR_L r_k) ⟨by decide, by decide⟩ ⟨by decide, by decide⟩) dX0_method_38 q378 q379 q90 q380 znX0_isIn (Nat.le_of_ble_eq_true rfl) (Nat.le_of_ble_eq_true rfl) (Nat.le_of_ble_eq_true rfl) (Nat.le_of_ble_eq_true rfl) rfl (Nat.le_of_ble_eq_true rfl) rfl (fun v9 Q9 h9 => ?_)
        obtain ⟨rfl, rfl⟩ := h9
        refine z_as (st' := [.int (iI (bI (decide ((0) ≤ (k) ∧ (k) ≤ (31)))))]) rfl rfl rfl ?_
        refine z_ifB_eq C 57 44 dX0_method_41 (by decide) rfl (fun c68 => ?_) (fun c68 => ?_)
        · skip
          have c68b : ¬ (((0) ≤ (k) ∧ (k) ≤ (31))) := of_decide_eq_false c68
          refine z_iconst C 58 dX0_method_57 rfl ?_
          exact z_iret C dX0_method_58 rfl (Nat.le_of_ble_eq_true rfl) (Nat.le_of_ble_eq_true rfl) (by have h9 : (meA w t n k y c && meB w c p q r) = false := (by clear C hκ hκl hS hB hB1 hB2 hB3 hB4 hB5 hB6 hC hw hX hs hT h81 h82 L137_1 f65a f65b f65c f65d f65e f65f f65g f65h f65i f65j f65k f65l; rw [meA_eq]; unfold meB; first | (simp_all; done) | (have h8 : dcB w t = false := (by unfold dcB; exact decide_eq_false (by omega)); simp [h8]) | (simp_all <;> omega)); unfold meI meO; rw [if_pos (by revert h9; cases meA w t n k y c <;> cases meB w c p q r <;> simp), if_neg (by simp [h9])]; exact xOp_same hX)
        · skip
          have c68b : (((0) ≤ (k) ∧ (k) ≤ (31))) := of_decide_eq_true c68
          refine z_aload_n C 45 0 dX0_method_44 rfl rfl ?_
          refine z_getf C hκ (v := .ref (σ 1 (0))) 48 0 zk_X0 hX.o (by decide) q325 (Or.inl rfl) rfl dX0_method_45 rfl ?_
          refine z_iload_n C 49 1 dX0_method_48 rfl rfl ?_
          refine x_aT C hκ 50 hX hs (by omega) (by omega) dX0_method_49 rfl ?_
          refine z_iload_n C 51 3 dX0_method_50 rfl rfl ?_
          refine z_callS (As := [.ref (σ 10 (t)), .int (iI (k))]) (rest := []) C hκ hκl 54 (k0_canBe hX hs hw hT (t) (k) r_k ⟨by omega, by omega⟩) dX0_method_51 q750 q751 q90 q752 znX0_canBe (Nat.le_of_ble_eq_true rfl) (Nat.le_of_ble_eq_true rfl) (Nat.le_of_ble_eq_true rfl) (Nat.le_of_ble_eq_true rfl) rfl (Nat.le_of_ble_eq_true rfl) rfl (fun v9 Q9 h9 => ?_)
          obtain ⟨rfl, rfl⟩ := h9
          refine z_as (st' := [.int (iI (bI (mbeC w (t) (k))))]) rfl rfl rfl ?_
          refine z_ifB_ne C 59 57 dX0_method_54 (by decide) rfl (fun c69 => ?_) (fun c69 => ?_)
          · skip
            refine z_iload C 61 4 dX0_method_59 rfl rfl ?_
            refine z_i2l C 62 dX0_method_61 r_y rfl ?_
            refine z_ldc2 (z := (-1)) C 65 dX0_method_62 q753 (by decide) rfl ?_
            refine z_aload_n C 66 0 dX0_method_65 rfl rfl ?_
            refine z_getf C hκ (v := .int (iI (w 0 0))) 69 1 zk_X0 hX.o (by decide) q328 (Or.inl rfl) rfl dX0_method_66 rfl ?_
            refine z_iconst C 70 dX0_method_69 rfl ?_
            refine z_isub C 71 dX0_method_70 rfl ?_
            refine z_i2l C 72 dX0_method_71 ⟨by omega, by omega⟩ rfl ?_
            refine z_callS (As := [.long (lI (y)), .long (lI (-1)), .long (lI ((w 0 0) - (1)))]) (rest := []) C hκ hκl 75 (k0_isIn hT (y) (-1) ((w 0 0) - (1)) (inR_L r_y) ⟨by decide, by decide⟩ ⟨by omega, by omega⟩) dX0_method_72 q378 q379 q90 q380 znX0_isIn (Nat.le_of_ble_eq_true rfl) (Nat.le_of_ble_eq_true rfl) (Nat.le_of_ble_eq_true rfl) (Nat.le_of_ble_eq_true rfl) rfl (Nat.le_of_ble_eq_true rfl) rfl (fun v9 Q9 h9 => ?_)
            obtain ⟨rfl, rfl⟩ := h9
            refine z_as (st' := [.int (iI (bI (decide ((-1) ≤ (y) ∧ (y) ≤ ((w 0 0) - (1))))))]) rfl rfl rfl ?_
            refine z_ifB_eq C 135 78 dX0_method_75 (by decide) rfl (fun c70 => ?_) (fun c70 => ?_)
            · skip
              have c70b : ¬ (((-1) ≤ (y) ∧ (y) ≤ ((w 0 0) - (1)))) := of_decide_eq_false c70
              refine z_iconst C 136 dX0_method_135 rfl ?_
              exact z_iret C dX0_method_136 rfl (Nat.le_of_ble_eq_true rfl) (Nat.le_of_ble_eq_true rfl) (by have h9 : (meA w t n k y c && meB w c p q r) = false := (by clear C hκ hκl hS hB hB1 hB2 hB3 hB4 hB5 hB6 hC hw hX hs hT h81 h82 L137_1 f65a f65b f65c f65d f65e f65f f65g f65h f65i f65j f65k f65l; rw [meA_eq]; unfold meB; first | (simp_all; done) | (have h8 : dcB w t = false := (by unfold dcB; exact decide_eq_false (by omega)); simp [h8]) | (simp_all <;> omega)); unfold meI meO; rw [if_pos (by revert h9; cases meA w t n k y c <;> cases meB w c p q r <;> simp), if_neg (by simp [h9])]; exact xOp_same hX)
            · skip
              have c70b : (((-1) ≤ (y) ∧ (y) ≤ ((w 0 0) - (1)))) := of_decide_eq_true c70
              refine z_iload C 80 5 dX0_method_78 rfl rfl ?_
              refine z_i2l C 81 dX0_method_80 r_c rfl ?_
              refine z_lconst (x := 0) C 82 dX0_method_81 rfl rfl ?_
              refine z_ldc2 (z := 3) C 85 dX0_method_82 q391 (by decide) rfl ?_
              refine z_callS (As := [.long (lI (c)), .long (lI (0)), .long (lI (3))]) (rest := []) C hκ hκl 88 (k0_isIn hT (c) (0) (3) (inR_L r_c) ⟨by decide, by decide⟩ ⟨by decide, by decide⟩) dX0_method_85 q378 q379 q90 q380 znX0_isIn (Nat.le_of_ble_eq_true rfl) (Nat.le_of_ble_eq_true rfl) (Nat.le_of_ble_eq_true rfl) (Nat.le_of_ble_eq_true rfl) rfl (Nat.le_of_ble_eq_true rfl) rfl (fun v9 Q9 h9 => ?_)
              obtain ⟨rfl, rfl⟩ := h9
              refine z_as (st' := [.int (iI (bI (decide ((0) ≤ (c) ∧ (c) ≤ (3)))))]) rfl rfl rfl ?_
              refine z_ifB_eq C 135 91 dX0_method_88 (by decide) rfl (fun c71 => ?_) (fun c71 => ?_)
              · skip
                have c71b : ¬ (((0) ≤ (c) ∧ (c) ≤ (3))) := of_decide_eq_false c71
                refine z_iconst C 136 dX0_method_135 rfl ?_
                exact z_iret C dX0_method_136 rfl (Nat.le_of_ble_eq_true rfl) (Nat.le_of_ble_eq_true rfl) (by have h9 : (meA w t n k y c && meB w c p q r) = false := (by clear C hκ hκl hS hB hB1 hB2 hB3 hB4 hB5 hB6 hC hw hX hs hT h81 h82 L137_1 f65a f65b f65c f65d f65e f65f f65g f65h f65i f65j f65k f65l; rw [meA_eq]; unfold meB; first | (simp_all; done) | (have h8 : dcB w t = false := (by unfold dcB; exact decide_eq_false (by omega)); simp [h8]) | (simp_all <;> omega)); unfold meI meO; rw [if_pos (by revert h9; cases meA w t n k y c <;> cases meB w c p q r <;> simp), if_neg (by simp [h9])]; exact xOp_same hX)
              · skip
                have c71b : (((0) ≤ (c) ∧ (c) ≤ (3))) := of_decide_eq_true c71
                refine z_iload C 93 5 dX0_method_91 rfl rfl ?_
                refine z_if_le C 105 96 dX0_method_93 (by decide) r_c rfl (fun c72 => ?_) (fun c72 => ?_)
                · skip
                  refine z_iload C 107 5 dX0_method_105 rfl rfl ?_
                  refine z_iconst C 108 dX0_method_107 rfl ?_
                  refine z_icmp_le C 120 111 dX0_method_108 (by decide) r_c ⟨by decide, by decide⟩ rfl (fun c73 => ?_) (fun c73 => ?_)
                  · skip
                    refine z_iload C 122 5 dX0_method_120 rfl rfl ?_
                    refine z_iconst C 123 dX0_method_122 rfl ?_
                    refine z_icmp_le C 137 126 dX0_method_123 (by decide) r_c ⟨by decide, by decide⟩ rfl (fun c74 => ?_) (fun c74 => ?_)
                    · skip
                      refine z_as (lv' := [(0, .ref (σ 0 (0))), (1, .int (iI (t))), (2, .int (iI (n))), (3, .int (iI (k))), (4, .int (iI (y))), (5, .int (iI (c))), (6, .int (iI (p))), (7, .int (iI (q))), (8, .int (iI (r)))]) rfl rfl rfl ?_
                      exact L137_1 _  (by clear C hκ hκl hS hB hB1 hB2 hB3 hB4 hB5 hB6 hC hw hX hs hT h81 h82 L137_1 f65a f65b f65c f65d f65e f65f f65g f65h f65i f65j f65k f65l; rw [meA_eq]; first | (simp_all; done) | (simp_all <;> omega)) (by clear C hκ hκl hS hB hB1 hB2 hB3 hB4 hB5 hB6 hC hw hX hs hT h81 h82 L137_1 f65a f65b f65c f65d f65e f65f f65g f65h f65i f65j f65k f65l; unfold meB; first | (simp_all; done) | (simp_all <;> omega) | grind) (Nat.lt_succ_self _)
                    · skip
                      refine z_aload_n C 127 0 dX0_method_126 rfl rfl ?_
                      refine z_iload C 129 8 dX0_method_127 rfl rfl ?_
                      refine z_callV (As := [.int (iI (r))]) (rest := []) C hκ hκl 132 (k0_isType hX hs hw hT (r) r_r) dX0_method_129 q374 q376 qs1 q90 q377 znX0_isType (Nat.le_of_ble_eq_true rfl) (Nat.le_of_ble_eq_true rfl) (Nat.le_of_ble_eq_true rfl) (Nat.le_of_ble_eq_true rfl) (zrec_P hX.o) rfl rfl (Nat.le_of_ble_eq_true rfl) rfl (fun v9 Q9 h9 => ?_)
                      obtain ⟨rfl, rfl⟩ := h9
                      refine z_as (st' := [.int (iI (bI (tyB w (r))))]) rfl rfl rfl ?_
                      refine z_ifB_ne C 137 135 dX0_method_132 (by decide) rfl (fun c75 => ?_) (fun c75 => ?_)
                      · skip
                        have c75b : (0 ≤ (r) ∧ (r) < w 0 0) := of_decide_eq_true c75
                        refine z_as (lv' := [(0, .ref (σ 0 (0))), (1, .int (iI (t))), (2, .int (iI (n))), (3, .int (iI (k))), (4, .int (iI (y))), (5, .int (iI (c))), (6, .int (iI (p))), (7, .int (iI (q))), (8, .int (iI (r)))]) rfl rfl rfl ?_
                        exact L137_1 _  (by clear C hκ hκl hS hB hB1 hB2 hB3 hB4 hB5 hB6 hC hw hX hs hT h81 h82 L137_1 f65a f65b f65c f65d f65e f65f f65g f65h f65i f65j f65k f65l; rw [meA_eq]; first | (simp_all; done) | (simp_all <;> omega)) (by clear C hκ hκl hS hB hB1 hB2 hB3 hB4 hB5 hB6 hC hw hX hs hT h81 h82 L137_1 f65a f65b f65c f65d f65e f65f f65g f65h f65i f65j f65k f65l; unfold meB; first | (simp_all; done) | (simp_all <;> omega) | grind) (Nat.lt_succ_self _)
                      · skip
                        have c75b : ¬ (0 ≤ (r) ∧ (r) < w 0 0) := of_decide_eq_false c75
                        refine z_iconst C 136 dX0_method_135 rfl ?_
                        exact z_iret C dX0_method_136 rfl (Nat.le_of_ble_eq_true rfl) (Nat.le_of_ble_eq_true rfl) (by have h9 : (meA w t n k y c && meB w c p q r) = false := (by clear C hκ hκl hS hB hB1 hB2 hB3 hB4 hB5 hB6 hC hw hX hs hT h81 h82 L137_1 f65a f65b f65c f65d f65e f65f f65g f65h f65i f65j f65k f65l; rw [meA_eq]; unfold meB; first | (simp_all; done) | (have h8 : dcB w t = false := (by unfold dcB; exact decide_eq_false (by omega)); simp [h8]) | (simp_all <;> omega)); unfold meI meO; rw [if_pos (by revert h9; cases meA w t n k y c <;> cases meB w c p q r <;> simp), if_neg (by simp [h9])]; exact xOp_same hX)
                  · skip
                    refine z_aload_n C 112 0 dX0_method_111 rfl rfl ?_
                    refine z_iload C 114 7 dX0_method_112 rfl rfl ?_
                    refine z_callV (As := [.int (iI (q))]) (rest := []) C hκ hκl 117 (k0_isType hX hs hw hT (q) r_q) dX0_method_114 q374 q376 qs1 q90 q377 znX0_isType (Nat.le_of_ble_eq_true rfl) (Nat.le_of_ble_eq_true rfl) (Nat.le_of_ble_eq_true rfl) (Nat.le_of_ble_eq_true rfl) (zrec_P hX.o) rfl rfl (Nat.le_of_ble_eq_true rfl) rfl (fun v9 Q9 h9 => ?_)
                    obtain ⟨rfl, rfl⟩ := h9
                    refine z_as (st' := [.int (iI (bI (tyB w (q))))]) rfl rfl rfl ?_
                    refine z_ifB_eq C 135 120 dX0_method_117 (by decide) rfl (fun c76 => ?_) (fun c76 => ?_)
                    · skip
                      have c76b : ¬ (0 ≤ (q) ∧ (q) < w 0 0) := of_decide_eq_false c76
                      refine z_iconst C 136 dX0_method_135 rfl ?_
                      exact z_iret C dX0_method_136 rfl (Nat.le_of_ble_eq_true rfl) (Nat.le_of_ble_eq_true rfl) (by have h9 : (meA w t n k y c && meB w c p q r) = false := (by clear C hκ hκl hS hB hB1 hB2 hB3 hB4 hB5 hB6 hC hw hX hs hT h81 h82 L137_1 f65a f65b f65c f65d f65e f65f f65g f65h f65i f65j f65k f65l; rw [meA_eq]; unfold meB; first | (simp_all; done) | (have h8 : dcB w t = false := (by unfold dcB; exact decide_eq_false (by omega)); simp [h8]) | (simp_all <;> omega)); unfold meI meO; rw [if_pos (by revert h9; cases meA w t n k y c <;> cases meB w c p q r <;> simp), if_neg (by simp [h9])]; exact xOp_same hX)
                    · skip
                      have c76b : (0 ≤ (q) ∧ (q) < w 0 0) := of_decide_eq_true c76
                      refine z_iload C 122 5 dX0_method_120 rfl rfl ?_
                      refine z_iconst C 123 dX0_method_122 rfl ?_
                      refine z_icmp_le C 137 126 dX0_method_123 (by decide) r_c ⟨by decide, by decide⟩ rfl (fun c77 => ?_) (fun c77 => ?_)
                      · skip
                        refine z_as (lv' := [(0, .ref (σ 0 (0))), (1, .int (iI (t))), (2, .int (iI (n))), (3, .int (iI (k))), (4, .int (iI (y))), (5, .int (iI (c))), (6, .int (iI (p))), (7, .int (iI (q))), (8, .int (iI (r)))]) rfl rfl rfl ?_
                        exact L137_1 _  (by clear C hκ hκl hS hB hB1 hB2 hB3 hB4 hB5 hB6 hC hw hX hs hT h81 h82 L137_1 f65a f65b f65c f65d f65e f65f f65g f65h f65i f65j f65k f65l; rw [meA_eq]; first | (simp_all; done) | (simp_all <;> omega)) (by clear C hκ hκl hS hB hB1 hB2 hB3 hB4 hB5 hB6 hC hw hX hs hT h81 h82 L137_1 f65a f65b f65c f65d f65e f65f f65g f65h f65i f65j f65k f65l; unfold meB; first | (simp_all; done) | (simp_all <;> omega) | grind) (Nat.lt_succ_self _)
                      · skip
                        refine z_aload_n C 127 0 dX0_method_126 rfl rfl ?_
                        refine z_iload C 129 8 dX0_method_127 rfl rfl ?_
                        refine z_callV (As := [.int (iI (r))]) (rest := []) C hκ hκl 132 (k0_isType hX hs hw hT (r) r_r) dX0_method_129 q374 q376 qs1 q90 q377 znX0_isType (Nat.le_of_ble_eq_true rfl) (Nat.le_of_ble_eq_true rfl) (Nat.le_of_ble_eq_true rfl) (Nat.le_of_ble_eq_true rfl) (zrec_P hX.o) rfl rfl (Nat.le_of_ble_eq_true rfl) rfl (fun v9 Q9 h9 => ?_)
                        obtain ⟨rfl, rfl⟩ := h9
                        refine z_as (st' := [.int (iI (bI (tyB w (r))))]) rfl rfl rfl ?_
                        refine z_ifB_ne C 137 135 dX0_method_132 (by decide) rfl (fun c78 => ?_) (fun c78 => ?_)
                        · skip
                          have c78b : (0 ≤ (r) ∧ (r) < w 0 0) := of_decide_eq_true c78
                          refine z_as (lv' := [(0, .ref (σ 0 (0))), (1, .int (iI (t))), (2, .int (iI (n))), (3, .int (iI (k))), (4, .int (iI (y))), (5, .int (iI (c))), (6, .int (iI (p))), (7, .int (iI (q))), (8, .int (iI (r)))]) rfl rfl rfl ?_
                          exact L137_1 _  (by clear C hκ hκl hS hB hB1 hB2 hB3 hB4 hB5 hB6 hC hw hX hs hT h81 h82 L137_1 f65a f65b f65c f65d f65e f65f f65g f65h f65i f65j f65k f65l; rw [meA_eq]; first | (simp_all; done) | (simp_all <;> omega)) (by clear C hκ hκl hS hB hB1 hB2 hB3 hB4 hB5 hB6 hC hw hX hs hT h81 h82 L137_1 f65a f65b f65c f65d f65e f65f f65g f65h f65i f65j f65k f65l; unfold meB; first | (simp_all; done) | (simp_all <;> omega) | grind) (Nat.lt_succ_self _)
                        · skip
                          have c78b : ¬ (0 ≤ (r) ∧ (r) < w 0 0) := of_decide_eq_false c78
                          refine z_iconst C 136 dX0_method_135 rfl ?_
                          exact z_iret C dX0_method_136 rfl (Nat.le_of_ble_eq_true rfl) (Nat.le_of_ble_eq_true rfl) (by have h9 : (meA w t n k y c && meB w c p q r) = false := (by clear C hκ hκl hS hB hB1 hB2 hB3 hB4 hB5 hB6 hC hw hX hs hT h81 h82 L137_1 f65a f65b f65c f65d f65e f65f f65g f65h f65i f65j f65k f65l; rw [meA_eq]; unfold meB; first | (simp_all; done) | (have h8 : dcB w t = false := (by unfold dcB; exact decide_eq_false (by omega)); simp [h8]) | (simp_all <;> omega)); unfold meI meO; rw [if_pos (by revert h9; cases meA w t n k y c <;> cases meB w c p q r <;> simp), if_neg (by simp [h9])]; exact xOp_same hX)
                · skip
                  refine z_aload_n C 97 0 dX0_method_96 rfl rfl ?_
                  refine z_iload C 99 6 dX0_method_97 rfl rfl ?_
                  refine z_callV (As := [.int (iI (p))]) (rest := []) C hκ hκl 102 (k0_isType hX hs hw hT (p) r_p) dX0_method_99 q374 q376 qs1 q90 q377 znX0_isType (Nat.le_of_ble_eq_true rfl) (Nat.le_of_ble_eq_true rfl) (Nat.le_of_ble_eq_true rfl) (Nat.le_of_ble_eq_true rfl) (zrec_P hX.o) rfl rfl (Nat.le_of_ble_eq_true rfl) rfl (fun v9 Q9 h9 => ?_)
                  obtain ⟨rfl, rfl⟩ := h9
                  refine z_as (st' := [.int (iI (bI (tyB w (p))))]) rfl rfl rfl ?_
                  refine z_ifB_eq C 135 105 dX0_method_102 (by decide) rfl (fun c79 => ?_) (fun c79 => ?_)
                  · skip
                    have c79b : ¬ (0 ≤ (p) ∧ (p) < w 0 0) := of_decide_eq_false c79
                    refine z_iconst C 136 dX0_method_135 rfl ?_
                    exact z_iret C dX0_method_136 rfl (Nat.le_of_ble_eq_true rfl) (Nat.le_of_ble_eq_true rfl) (by have h9 : (meA w t n k y c && meB w c p q r) = false := (by clear C hκ hκl hS hB hB1 hB2 hB3 hB4 hB5 hB6 hC hw hX hs hT h81 h82 L137_1 f65a f65b f65c f65d f65e f65f f65g f65h f65i f65j f65k f65l; rw [meA_eq]; unfold meB; first | (simp_all; done) | (have h8 : dcB w t = false := (by unfold dcB; exact decide_eq_false (by omega)); simp [h8]) | (simp_all <;> omega)); unfold meI meO; rw [if_pos (by revert h9; cases meA w t n k y c <;> cases meB w c p q r <;> simp), if_neg (by simp [h9])]; exact xOp_same hX)
                  · skip
                    have c79b : (0 ≤ (p) ∧ (p) < w 0 0) := of_decide_eq_true c79
                    refine z_iload C 107 5 dX0_method_105 rfl rfl ?_
                    refine z_iconst C 108 dX0_method_107 rfl ?_
                    refine z_icmp_le C 120 111 dX0_method_108 (by decide) r_c ⟨by decide, by decide⟩ rfl (fun c80 => ?_) (fun c80 => ?_)
                    · skip
                      refine z_iload C 122 5 dX0_method_120 rfl rfl ?_
                      refine z_iconst C 123 dX0_method_122 rfl ?_
                      refine z_icmp_le C 137 126 dX0_method_123 (by decide) r_c ⟨by decide, by decide⟩ rfl (fun c81 => ?_) (fun c81 => ?_)
                      · skip
                        refine z_as (lv' := [(0, .ref (σ 0 (0))), (1, .int (iI (t))), (2, .int (iI (n))), (3, .int (iI (k))), (4, .int (iI (y))), (5, .int (iI (c))), (6, .int (iI (p))), (7, .int (iI (q))), (8, .int (iI (r)))]) rfl rfl rfl ?_
                        exact L137_1 _  (by clear C hκ hκl hS hB hB1 hB2 hB3 hB4 hB5 hB6 hC hw hX hs hT h81 h82 L137_1 f65a f65b f65c f65d f65e f65f f65g f65h f65i f65j f65k f65l; rw [meA_eq]; first | (simp_all; done) | (simp_all <;> omega)) (by clear C hκ hκl hS hB hB1 hB2 hB3 hB4 hB5 hB6 hC hw hX hs hT h81 h82 L137_1 f65a f65b f65c f65d f65e f65f f65g f65h f65i f65j f65k f65l; unfold meB; first | (simp_all; done) | (simp_all <;> omega) | grind) (Nat.lt_succ_self _)
                      · skip
                        refine z_aload_n C 127 0 dX0_method_126 rfl rfl ?_
                        refine z_iload C 129 8 dX0_method_127 rfl rfl ?_
                        refine z_callV (As := [.int (iI (r))]) (rest := []) C hκ hκl 132 (k0_isType hX hs hw hT (r) r_r) dX0_method_129 q374 q376 qs1 q90 q377 znX0_isType (Nat.le_of_ble_eq_true rfl) (Nat.le_of_ble_eq_true rfl) (Nat.le_of_ble_eq_true rfl) (Nat.le_of_ble_eq_true rfl) (zrec_P hX.o) rfl rfl (Nat.le_of_ble_eq_true rfl) rfl (fun v9 Q9 h9 => ?_)
                        obtain ⟨rfl, rfl⟩ := h9
                        refine z_as (st' := [.int (iI (bI (tyB w (r))))]) rfl rfl rfl ?_
                        refine z_ifB_ne C 137 135 dX0_method_132 (by decide) rfl (fun c82 => ?_) (fun c82 => ?_)
                        · skip
                          have c82b : (0 ≤ (r) ∧ (r) < w 0 0) := of_decide_eq_true c82
                          refine z_as (lv' := [(0, .ref (σ 0 (0))), (1, .int (iI (t))), (2, .int (iI (n))), (3, .int (iI (k))), (4, .int (iI (y))), (5, .int (iI (c))), (6, .int (iI (p))), (7, .int (iI (q))), (8, .int (iI (r)))]) rfl rfl rfl ?_
                          exact L137_1 _  (by clear C hκ hκl hS hB hB1 hB2 hB3 hB4 hB5 hB6 hC hw hX hs hT h81 h82 L137_1 f65a f65b f65c f65d f65e f65f f65g f65h f65i f65j f65k f65l; rw [meA_eq]; first | (simp_all; done) | (simp_all <;> omega)) (by clear C hκ hκl hS hB hB1 hB2 hB3 hB4 hB5 hB6 hC hw hX hs hT h81 h82 L137_1 f65a f65b f65c f65d f65e f65f f65g f65h f65i f65j f65k f65l; unfold meB; first | (simp_all; done) | (simp_all <;> omega) | grind) (Nat.lt_succ_self _)
                        · skip
                          have c82b : ¬ (0 ≤ (r) ∧ (r) < w 0 0) := of_decide_eq_false c82
                          refine z_iconst C 136 dX0_method_135 rfl ?_
                          exact z_iret C dX0_method_136 rfl (Nat.le_of_ble_eq_true rfl) (Nat.le_of_ble_eq_true rfl) (by have h9 : (meA w t n k y c && meB w c p q r) = false := (by clear C hκ hκl hS hB hB1 hB2 hB3 hB4 hB5 hB6 hC hw hX hs hT h81 h82 L137_1 f65a f65b f65c f65d f65e f65f f65g f65h f65i f65j f65k f65l; rw [meA_eq]; unfold meB; first | (simp_all; done) | (have h8 : dcB w t = false := (by unfold dcB; exact decide_eq_false (by omega)); simp [h8]) | (simp_all <;> omega)); unfold meI meO; rw [if_pos (by revert h9; cases meA w t n k y c <;> cases meB w c p q r <;> simp), if_neg (by simp [h9])]; exact xOp_same hX)
                    · skip
                      refine z_aload_n C 112 0 dX0_method_111 rfl rfl ?_
                      refine z_iload C 114 7 dX0_method_112 rfl rfl ?_
                      refine z_callV (As := [.int (iI (q))]) (rest := []) C hκ hκl 117 (k0_isType hX hs hw hT (q) r_q) dX0_method_114 q374 q376 qs1 q90 q377 znX0_isType (Nat.le_of_ble_eq_true rfl) (Nat.le_of_ble_eq_true rfl) (Nat.le_of_ble_eq_true rfl) (Nat.le_of_ble_eq_true rfl) (zrec_P hX.o) rfl rfl (Nat.le_of_ble_eq_true rfl) rfl (fun v9 Q9 h9 => ?_)
                      obtain ⟨rfl, rfl⟩ := h9
                      refine z_as (st' := [.int (iI (bI (tyB w (q))))]) rfl rfl rfl ?_
                      refine z_ifB_eq C 135 120 dX0_method_117 (by decide) rfl (fun c83 => ?_) (fun c83 => ?_)
                      · skip
                        have c83b : ¬ (0 ≤ (q) ∧ (q) < w 0 0) := of_decide_eq_false c83
                        refine z_iconst C 136 dX0_method_135 rfl ?_
                        exact z_iret C dX0_method_136 rfl (Nat.le_of_ble_eq_true rfl) (Nat.le_of_ble_eq_true rfl) (by have h9 : (meA w t n k y c && meB w c p q r) = false := (by clear C hκ hκl hS hB hB1 hB2 hB3 hB4 hB5 hB6 hC hw hX hs hT h81 h82 L137_1 f65a f65b f65c f65d f65e f65f f65g f65h f65i f65j f65k f65l; rw [meA_eq]; unfold meB; first | (simp_all; done) | (have h8 : dcB w t = false := (by unfold dcB; exact decide_eq_false (by omega)); simp [h8]) | (simp_all <;> omega)); unfold meI meO; rw [if_pos (by revert h9; cases meA w t n k y c <;> cases meB w c p q r <;> simp), if_neg (by simp [h9])]; exact xOp_same hX)
                      · skip
                        have c83b : (0 ≤ (q) ∧ (q) < w 0 0) := of_decide_eq_true c83
                        refine z_iload C 122 5 dX0_method_120 rfl rfl ?_
                        refine z_iconst C 123 dX0_method_122 rfl ?_
                        refine z_icmp_le C 137 126 dX0_method_123 (by decide) r_c ⟨by decide, by decide⟩ rfl (fun c84 => ?_) (fun c84 => ?_)
                        · skip
                          refine z_as (lv' := [(0, .ref (σ 0 (0))), (1, .int (iI (t))), (2, .int (iI (n))), (3, .int (iI (k))), (4, .int (iI (y))), (5, .int (iI (c))), (6, .int (iI (p))), (7, .int (iI (q))), (8, .int (iI (r)))]) rfl rfl rfl ?_
                          exact L137_1 _  (by clear C hκ hκl hS hB hB1 hB2 hB3 hB4 hB5 hB6 hC hw hX hs hT h81 h82 L137_1 f65a f65b f65c f65d f65e f65f f65g f65h f65i f65j f65k f65l; rw [meA_eq]; first | (simp_all; done) | (simp_all <;> omega)) (by clear C hκ hκl hS hB hB1 hB2 hB3 hB4 hB5 hB6 hC hw hX hs hT h81 h82 L137_1 f65a f65b f65c f65d f65e f65f f65g f65h f65i f65j f65k f65l; unfold meB; first | (simp_all; done) | (simp_all <;> omega) | grind) (Nat.lt_succ_self _)
                        · skip
                          refine z_aload_n C 127 0 dX0_method_126 rfl rfl ?_
                          refine z_iload C 129 8 dX0_method_127 rfl rfl ?_
                          refine z_callV (As := [.int (iI (r))]) (rest := []) C hκ hκl 132 (k0_isType hX hs hw hT (r) r_r) dX0_method_129 q374 q376 qs1 q90 q377 znX0_isType (Nat.le_of_ble_eq_true rfl) (Nat.le_of_ble_eq_true rfl) (Nat.le_of_ble_eq_true rfl) (Nat.le_of_ble_eq_true rfl) (zrec_P hX.o) rfl rfl (Nat.le_of_ble_eq_true rfl) rfl (fun v9 Q9 h9 => ?_)
                          obtain ⟨rfl, rfl⟩ := h9
                          refine z_as (st' := [.int (iI (bI (tyB w (r))))]) rfl rfl rfl ?_
                          refine z_ifB_ne C 137 135 dX0_method_132 (by decide) rfl (fun c85 => ?_) (fun c85 => ?_)
                          · skip
                            have c85b : (0 ≤ (r) ∧ (r) < w 0 0) := of_decide_eq_true c85
                            refine z_as (lv' := [(0, .ref (σ 0 (0))), (1, .int (iI (t))), (2, .int (iI (n))), (3, .int (iI (k))), (4, .int (iI (y))), (5, .int (iI (c))), (6, .int (iI (p))), (7, .int (iI (q))), (8, .int (iI (r)))]) rfl rfl rfl ?_
                            exact L137_1 _  (by clear C hκ hκl hS hB hB1 hB2 hB3 hB4 hB5 hB6 hC hw hX hs hT h81 h82 L137_1 f65a f65b f65c f65d f65e f65f f65g f65h f65i f65j f65k f65l; rw [meA_eq]; first | (simp_all; done) | (simp_all <;> omega)) (by clear C hκ hκl hS hB hB1 hB2 hB3 hB4 hB5 hB6 hC hw hX hs hT h81 h82 L137_1 f65a f65b f65c f65d f65e f65f f65g f65h f65i f65j f65k f65l; unfold meB; first | (simp_all; done) | (simp_all <;> omega) | grind) (Nat.lt_succ_self _)
                          · skip
                            have c85b : ¬ (0 ≤ (r) ∧ (r) < w 0 0) := of_decide_eq_false c85
                            refine z_iconst C 136 dX0_method_135 rfl ?_
                            exact z_iret C dX0_method_136 rfl (Nat.le_of_ble_eq_true rfl) (Nat.le_of_ble_eq_true rfl) (by have h9 : (meA w t n k y c && meB w c p q r) = false := (by clear C hκ hκl hS hB hB1 hB2 hB3 hB4 hB5 hB6 hC hw hX hs hT h81 h82 L137_1 f65a f65b f65c f65d f65e f65f f65g f65h f65i f65j f65k f65l; rw [meA_eq]; unfold meB; first | (simp_all; done) | (have h8 : dcB w t = false := (by unfold dcB; exact decide_eq_false (by omega)); simp [h8]) | (simp_all <;> omega)); unfold meI meO; rw [if_pos (by revert h9; cases meA w t n k y c <;> cases meB w c p q r <;> simp), if_neg (by simp [h9])]; exact xOp_same hX)
          · skip
            refine z_iconst C 58 dX0_method_57 rfl ?_
            exact z_iret C dX0_method_58 rfl (Nat.le_of_ble_eq_true rfl) (Nat.le_of_ble_eq_true rfl) (by have h9 : (meA w t n k y c && meB w c p q r) = false := (by clear C hκ hκl hS hB hB1 hB2 hB3 hB4 hB5 hB6 hC hw hX hs hT h81 h82 L137_1 f65a f65b f65c f65d f65e f65f f65g f65h f65i f65j f65k f65l; rw [meA_eq]; unfold meB; first | (simp_all; done) | (have h8 : dcB w t = false := (by unfold dcB; exact decide_eq_false (by omega)); simp [h8]) | (simp_all <;> omega)); unfold meI meO; rw [if_pos (by revert h9; cases meA w t n k y c <;> cases meB w c p q r <;> simp), if_neg (by simp [h9])]; exact xOp_same hX)
