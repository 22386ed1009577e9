theorem mB_of {w w' : mW} (h : mB w) (h0 : w' 0 0 = w 0 0) (h1 : w' 11 0 = w 11 0) (h2 : w' 27 0 = w 27 0) : mB w' := by unfold mB at *; omega
def clT (w : mW) (t : Int) : Bool := decide (w 1 t = 1 ∨ w 1 t = 2)
def facS (w : mW) (rec : Int → List Int) (t : Int) (L0 : List Int) : Nat → List Int
  | 0 => L0
  | j + 1 => adA (facS w rec t L0 j) (clT w t) (rec (w 7 (3 * t + j)))
def ancS1 (w : mW) (rec : Int → List Int) (t : Int) : List Int := if clT w t && decide (t ≠ 8) then adA [t] true (rec (w 2 t)) else [t]
def ancS (w : mW) (rec : Int → List Int) (t : Int) : List Int := if t < 8 then [] else adL (facS w rec t (ancS1 w rec t) (w 6 t).toNat) 8
def basB (t b : Int) : Bool := decide (t = b) || (decide (8 ≤ t) && decide (b = 8))
def is1S (w : mW) (rec : Int → Int → Bool) (t b : Int) : Bool := basB t b || (clT w t && decide (t ≠ 8) && rec (w 2 t) b)
def rowS (w : mW) (rec : Int → Int → Bool) (t b : Int) : Bool := decide (w 1 t = 4) && decide (8 ≤ w 4 t) && decide (w 1 b = 4) && decide (8 ≤ w 4 b) && rec (w 4 t) (w 4 b)
def is2S (w : mW) (rec : Int → Int → Bool) (t b : Int) (n : Nat) : Bool := is1S w rec t b || anyN (fun j => rec (w 7 (3 * t + j)) b) n
def isaS (w : mW) (rec : Int → Int → Bool) (t b : Int) : Bool := if t < 8 then basB t b else is2S w rec t b (w 6 t).toNat || rowS w rec t b
def ancF (w : mW) : Nat → Int → List Int
  | 0, _ => []
  | n + 1, t => ancS w (ancF w n) t
def isaF (w : mW) : Nat → Int → Int → Bool
  | 0, _, _ => false
  | n + 1, t, b => isaS w (isaF w n) t b
def ancL (w : mW) (t : Int) : List Int := ancF w (t.toNat + 1) t
def isaL (w : mW) (t b : Int) : Bool := isaF w (t.toNat + 1) t b
/-- what the types' own data keep -/
def mBT (w : mW) : Prop := ∀ t : Int, 0 ≤ t → t < w 0 0 → (-1 ≤ w 2 t ∧ w 2 t < t) ∧ (clT w t = true → t ≠ 8 → 8 ≤ w 2 t) ∧ (0 ≤ w 6 t ∧ w 6 t ≤ 3) ∧ (∀ j : Int, 0 ≤ j → j < w 6 t → 8 ≤ w 7 (3 * t + j) ∧ w 7 (3 * t + j) < t) ∧ (-1 ≤ w 4 t ∧ w 4 t < t) ∧ (0 ≤ w 1 t ∧ w 1 t ≤ 4 ∧ (t < 8 → w 1 t = 0))
theorem facS_congr {w : mW} {r1 r2 : Int → List Int} {t : Int} {L1 L2 : List Int} (hL : L1 = L2) : ∀ n : Nat, (∀ j : Int, 0 ≤ j → j < n → r1 (w 7 (3 * t + j)) = r2 (w 7 (3 * t + j))) → facS w r1 t L1 n = facS w r2 t L2 n
  | 0, _ => hL
  | n + 1, h => by
    simp only [facS]
    rw [facS_congr hL n (fun j h1 h2 => h j h1 (by omega)), h n (by omega) (by omega)]
theorem anyN_congr {p q : Nat → Bool} : ∀ n : Nat, (∀ k, k < n → p k = q k) → anyN p n = anyN q n
  | 0, _ => rfl
  | n + 1, h => by simp only [anyN]; rw [anyN_congr n (fun k hk => h k (by omega)), h n (by omega)]
theorem ancS_congr {w : mW} (hb : mBT w) {r1 r2 : Int → List Int} {t : Int} (h0 : 0 ≤ t) (h1 : t < w 0 0) (h : ∀ x : Int, 8 ≤ x → x < t → r1 x = r2 x) : ancS w r1 t = ancS w r2 t := by
  obtain ⟨b1, b2, b3, b4, b5⟩ := hb t h0 h1
  unfold ancS
  split
  · rfl
  · congr 1
    refine facS_congr ?_ _ (fun j h2 h3 => ?_)
    · unfold ancS1
      split
      · rename_i hc
        rw [Bool.and_eq_true] at hc
        rw [h _ (b2 hc.1 (of_decide_eq_true hc.2)) b1.2]
      · rfl
    · have := b4 j h2 (by omega)
      exact h _ this.1 this.2
theorem isaS_congr {w : mW} (hb : mBT w) {r1 r2 : Int → Int → Bool} {t b : Int} (h0 : 0 ≤ t) (h1 : t < w 0 0) (h : ∀ x y : Int, 8 ≤ x → x < t → r1 x y = r2 x y) : isaS w r1 t b = isaS w r2 t b := by
  obtain ⟨b1, b2, b3, b4, b5⟩ := hb t h0 h1
  unfold isaS
  split
  · rfl
  · unfold is2S is1S rowS
    congr 1
    · congr 1
      · congr 1
        by_cases hc : (clT w t && decide (t ≠ 8)) = true
        · rw [Bool.and_eq_true] at hc
          rw [h _ _ (b2 hc.1 (of_decide_eq_true hc.2)) b1.2]
        · rw [Bool.eq_false_iff.mpr hc]; rfl
      · refine anyN_congr _ (fun k hk => ?_)
        have := b4 k (by omega) (by omega)
        exact h _ _ this.1 this.2
    · by_cases hc : 8 ≤ w 4 t
      · rw [h _ _ hc b5.1.2]
      · have : decide (8 ≤ w 4 t) = false := decide_eq_false hc
        rw [this]; simp
theorem ancF_fuel {w : mW} (hb : mBT w) : ∀ (n m : Nat) (t : Int), 0 ≤ t → t < w 0 0 → t < n → t < m → ancF w n t = ancF w m t
  | 0, m, t, h0, _, h1, _ => by omega
  | n + 1, 0, t, h0, _, _, h2 => by omega
  | n + 1, m + 1, t, h0, hT, h1, h2 => by
    show ancS w (ancF w n) t = ancS w (ancF w m) t
    exact ancS_congr hb h0 hT (fun x hx1 hx2 => ancF_fuel hb n m x (by omega) (by omega) (by omega) (by omega))
theorem isaF_fuel {w : mW} (hb : mBT w) : ∀ (n m : Nat) (t b : Int), 0 ≤ t → t < w 0 0 → t < n → t < m → isaF w n t b = isaF w m t b
  | 0, m, t, b, h0, _, h1, _ => by omega
  | n + 1, 0, t, b, h0, _, _, h2 => by omega
  | n + 1, m + 1, t, b, h0, hT, h1, h2 => by
    show isaS w (isaF w n) t b = isaS w (isaF w m) t b
    exact isaS_congr hb h0 hT (fun x y hx1 hx2 => isaF_fuel hb n m x y (by omega) (by omega) (by omega) (by omega))
theorem ancL_eq {w : mW} (hb : mBT w) {t : Int} (h0 : 0 ≤ t) (hT : t < w 0 0) : ancL w t = ancS w (ancL w) t := by
  show ancS w (ancF w t.toNat) t = _
  exact ancS_congr hb h0 hT (fun x hx1 hx2 => ancF_fuel hb _ _ x (by omega) (by omega) (by omega) (by omega))
theorem isaL_eq {w : mW} (hb : mBT w) {t b : Int} (h0 : 0 ≤ t) (hT : t < w 0 0) : isaL w t b = isaS w (isaL w) t b := by
  show isaS w (isaF w t.toNat) t b = _
  exact isaS_congr hb h0 hT (fun x y hx1 hx2 => isaF_fuel hb _ _ x y (by omega) (by omega) (by omega) (by omega))
theorem facS_rg {w : mW} {rec : Int → List Int} {t T : Int} {L0 : List Int} (hL : rgL T L0) : ∀ n : Nat, (∀ j : Int, 0 ≤ j → j < n → rgL T (rec (w 7 (3 * t + j)))) → rgL T (facS w rec t L0 n)
  | 0, _ => hL
  | n + 1, h => adA_rg (h n (by omega) (by omega)).2 (facS_rg hL n (fun j h1 h2 => h j h1 (by omega)))
theorem ancS1_rg {w : mW} (hb : mBT w) {rec : Int → List Int} {t : Int} (h0 : 0 ≤ t) (hT : t < w 0 0) (h : ∀ x : Int, 8 ≤ x → x < t → rgL (w 0 0) (rec x)) : rgL (w 0 0) (ancS1 w rec t) := by
  obtain ⟨b1, b2, b3, b4, b5⟩ := hb t h0 hT
  have h1 : rgL (w 0 0) [t] := ⟨by simp, fun x hx => by simp at hx; subst hx; exact ⟨h0, hT⟩⟩
  unfold ancS1
  split
  · rename_i hc
    rw [Bool.and_eq_true] at hc
    exact adA_rg (h _ (b2 hc.1 (of_decide_eq_true hc.2)) b1.2).2 h1
  · exact h1
theorem ancF_rg {w : mW} (hb : mBT w) (h9 : 9 ≤ w 0 0) : ∀ (n : Nat) (t : Int), 0 ≤ t → t < w 0 0 → rgL (w 0 0) (ancF w n t)
  | 0, t, _, _ => ⟨by simp [ancF], fun x hx => by simp [ancF] at hx⟩
  | n + 1, t, h0, hT => by
    obtain ⟨b1, b2, b3, b4, b5⟩ := hb t h0 hT
    show rgL _ (ancS w (ancF w n) t)
    unfold ancS
    split
    · exact ⟨by simp, fun x hx => by simp at hx⟩
    · refine adL_rg (facS_rg (ancS1_rg hb h0 hT (fun x h1 h2 => ancF_rg hb h9 n x (by omega) (by omega))) _ (fun j h1 h2 => ?_)) ⟨by omega, by omega⟩
      have := b4 j h1 (by omega)
      exact ancF_rg hb h9 n _ (by omega) (by omega)
theorem ancL_rg {w : mW} (hb : mBT w) (h9 : 9 ≤ w 0 0) {t : Int} (h0 : 0 ≤ t) (hT : t < w 0 0) : rgL (w 0 0) (ancL w t) := ancF_rg hb h9 _ t h0 hT
/-- the rows below t are laid out; all else is as before -/
def lOK (w w' : mW) (t : Int) : Prop := (∀ (k : Nat) (i : Int), k ≠ 8 → k ≠ 9 → k ≠ 10 → w' k i = w k i) ∧ ∀ x : Int, 0 ≤ x → x < t → rowL w' x (ancL w x) ∧ ∀ b : Int, 0 ≤ b → b < w 0 0 → isa w' x b = isaL w x b
theorem tkW_wf {w : mW} {t f : Int} (hw : mWF w) : ∀ n : Nat, mWF (tkW w t f n)
  | 0 => hw
  | n + 1 => (tkW_wf hw n).setB (bI_01 _)
theorem mb_set {w : mW} {k : Nat} {i : Int} {b : Bool} : mb (mset w k i (bI b)) k i = b := by
  unfold mb
  rw [mset_s]
  cases b <;> rfl
theorem mb_i {w : mW} {k : Nat} {i j v : Int} (h : j ≠ i) : mb (mset w k i v) k j = mb w k j := by
  unfold mb
  rw [mset_i h]
theorem mb_k {w : mW} {k k' : Nat} {i j v : Int} (h : k' ≠ k) : mb (mset w k i v) k' j = mb w k' j := by
  unfold mb
  rw [mset_k h]
/-- row t's numbers after n of them are taken over -/
theorem tkW_row {w : mW} {t f : Int} (hne : f ≠ t) : ∀ n : Nat, n ≤ 60 → (∀ x b : Int, 0 ≤ b → b < 60 → x ≠ t → isa (tkW w t f n) x b = isa w x b) ∧ (∀ b : Int, 0 ≤ b → b < 60 → isa (tkW w t f n) t b = if b < n then isa w t b || isa w f b else isa w t b)
  | 0, _ => ⟨fun _ _ _ _ _ => rfl, fun b h0 _ => by rw [if_neg (by omega)]; rfl⟩
  | n + 1, hn => by
    obtain ⟨h1, h2⟩ := tkW_row hne n (by omega)
    have e1 := h2 n (by omega) (by omega)
    rw [if_neg (by omega)] at e1
    have e2 := h1 f n (by omega) (by omega) hne
    refine ⟨fun x b hb0 hb1 hx => ?_, fun b hb0 hb1 => ?_⟩
    · show mb (mset _ 8 _ _) 8 _ = _
      rw [mb_i (by omega)]
      exact h1 x b hb0 hb1 hx
    · by_cases hb : b = n
      · subst hb
        show mb (mset _ 8 _ _) 8 _ = _
        rw [mb_set, if_pos (by omega), e1, e2]
      · show mb (mset _ 8 _ _) 8 _ = _
        rw [mb_i (by omega)]
        have := h2 b hb0 hb1
        show isa _ _ _ = _
        rw [this]
        by_cases hl : b < n
        · rw [if_pos hl, if_pos (by omega)]
        · rw [if_neg hl, if_neg (by omega)]
def sBase (w w' : mW) (t : Int) : Prop := (∀ (k : Nat) (i : Int), k ≠ 8 → k ≠ 9 → k ≠ 10 → w' k i = w k i) ∧ ∀ x : Int, 0 ≤ x → x < t → rowL w' x (ancL w x) ∧ ∀ b : Int, 0 ≤ b → b < w 0 0 → isa w' x b = isaL w x b
def stI (w w' : mW) (t n : Int) : Prop := sBase w w' t ∧ ∀ b : Int, 0 ≤ b → b < n → isa w' t b = basB t b
def stL (w w' : mW) (t : Int) (L : List Int) (f : Int → Bool) : Prop := sBase w w' t ∧ rowL w' t L ∧ ∀ b : Int, 0 ≤ b → b < w 0 0 → isa w' t b = f b
theorem sBase.set8 {w w' : mW} {t i v : Int} (hT : w 0 0 ≤ 60) (h : sBase w w' t) (hi : 60 * t ≤ i) : sBase w (mset w' 8 i v) t := by
  refine ⟨fun k j a b c => by rw [mset_k a]; exact h.1 k j a b c, fun x h0 h1 => ?_⟩
  obtain ⟨r1, r2⟩ := h.2 x h0 h1
  refine ⟨rowL_eq r1 (mset_k (by decide)) (fun k _ => mset_k (by decide)), fun b b0 b1 => ?_⟩
  show mb (mset _ 8 _ _) 8 _ = _
  rw [mb_i (by omega)]
  exact r2 b b0 b1
theorem stI.set {w w' : mW} {t : Int} {b : Nat} {c : Bool} (hT : w 0 0 ≤ 60) (hb : (b : Int) < 60) (h : stI w w' t b) (hc : c = basB t b) : stI w (mset w' 8 (60 * t + b) (bI c)) t ((b + 1 : Nat) : Int) := by
  refine ⟨h.1.set8 hT (by omega), fun b' h0 h1 => ?_⟩
  show mb (mset _ 8 _ _) 8 _ = _
  by_cases hbb : b' = b
  · subst hbb; rw [mb_set, hc]
  · rw [mb_i (by omega)]; exact h.2 b' h0 (by omega)
theorem stI.fin {w w' : mW} {t : Int} (h : stI w w' t (w 0 0)) : stL w (mset w' 10 t 0) t [] (basB t) := by
  refine ⟨⟨fun k j a b c => by rw [mset_k c]; exact h.1.1 k j a b c, fun x h0 h1 => ?_⟩, ⟨by rw [mset_s]; rfl, fun k a hk => by simp at hk⟩, fun b b0 b1 => by show mb _ 8 _ = _; rw [mb_k (by decide)]; exact h.2 b b0 b1⟩
  obtain ⟨r1, r2⟩ := h.1.2 x h0 h1
  exact ⟨rowL_eq r1 (mset_i (by omega)) (fun k _ => mset_k (by decide)), fun b b0 b1 => by show mb _ 8 _ = _; rw [mb_k (by decide)]; exact r2 b b0 b1⟩
theorem isa_list {w : mW} {t a x b : Int} : isa (listW w t a) x b = isa w x b := by
  show decide (listW w t a 8 _ = 1) = _
  rw [listW_k (by decide) (by decide)]
theorem isa_la {w : mW} {t f x b : Int} {r : Bool} {n : Nat} : isa (laW w t f r n) x b = isa w x b := by
  show decide (laW w t f r n 8 _ = 1) = _
  rw [laW_k (by decide) (by decide)]
theorem stL.len {w w' : mW} {t a : Int} {L : List Int} {f : Int → Bool} (hT : 9 ≤ w 0 0 ∧ w 0 0 ≤ 60) (h : stL w w' t L f) (hL : rgL (w 0 0) L) (ha : 0 ≤ a ∧ a < w 0 0) : (0 ≤ w' 10 t ∧ w' 10 t ≤ 60) ∧ (lsB w' t a = false → w' 10 t < 60) := by
  have h1 := rgL_le hL (by omega)
  have h2 := h.2.1.1
  refine ⟨⟨by omega, by omega⟩, fun hl => ?_⟩
  have hnm : a ∉ L := fun z => by rw [(lsB_mem h.2.1).mpr z] at hl; cases hl
  have h3 := rgL_le (adL_rg hL ha) (by omega)
  unfold adL at h3
  rw [if_neg hnm, List.length_append] at h3
  simp only [List.length_cons, List.length_nil] at h3
  omega
theorem stL.list {w w' : mW} {t a : Int} {L : List Int} {f : Int → Bool} (hb : mBT w) (hT : 9 ≤ w 0 0 ∧ w 0 0 ≤ 60) (ht : 0 ≤ t ∧ t < w 0 0) (h : stL w w' t L f) (hL : rgL (w 0 0) L) (ha : 0 ≤ a ∧ a < w 0 0) : stL w (listW w' t a) t (adL L a) f := by
  obtain ⟨g1, g2⟩ := h.len hT hL ha
  refine ⟨⟨fun k j a b c => by rw [listW_k b c]; exact h.1.1 k j a b c, fun x h0 h1 => ?_⟩, listW_row h.2.1, fun b b0 b1 => by rw [isa_list]; exact h.2.2 b b0 b1⟩
  obtain ⟨r1, r2⟩ := h.1.2 x h0 h1
  have := rgL_le (ancL_rg hb hT.1 h0 (by omega)) (by omega)
  exact ⟨listW_off ⟨g1.1, g2⟩ (by omega) (by omega) r1, fun b b0 b1 => by rw [isa_list]; exact r2 b b0 b1⟩
theorem stL.take {w w' : mW} {t p : Int} {L : List Int} {f : Int → Bool} (hT : 9 ≤ w 0 0 ∧ w 0 0 ≤ 60) (hp : 0 ≤ p ∧ p < t) (h : stL w w' t L f) : stL w (tkW w' t p (w' 0 0).toNat) t L (fun b => f b || isaL w p b) := by
  have e0 : w' 0 0 = w 0 0 := h.1.1 0 0 (by decide) (by decide) (by decide)
  obtain ⟨k1, k2⟩ := tkW_row (w := w') (t := t) (f := p) (by omega) (w' 0 0).toNat (by omega)
  refine ⟨⟨fun k j a b c => by rw [tkW_k a]; exact h.1.1 k j a b c, fun x h0 h1 => ?_⟩, rowL_eq h.2.1 (tkW_k (by decide)) (fun k _ => tkW_k (by decide)), fun b b0 b1 => ?_⟩
  · obtain ⟨r1, r2⟩ := h.1.2 x h0 h1
    exact ⟨rowL_eq r1 (tkW_k (by decide)) (fun k _ => tkW_k (by decide)), fun b b0 b1 => by rw [k1 x b b0 (by omega) (by omega)]; exact r2 b b0 b1⟩
  · rw [k2 b b0 (by omega), if_pos (by omega), h.2.2 b b0 b1, (h.1.2 p hp.1 hp.2).2 b b0 b1]
theorem stL.la {w w' : mW} {t p : Int} {r : Bool} {L : List Int} {f : Int → Bool} (hw : mWF w') (hb : mBT w) (hT : 9 ≤ w 0 0 ∧ w 0 0 ≤ 60) (ht : 0 ≤ t ∧ t < w 0 0) (hp : 0 ≤ p ∧ p < t) (hL : rgL (w 0 0) L) (h : stL w w' t L f) : stL w (laW w' t p r (w' 10 p).toNat) t (adA L r (ancL w p)) f ∧ mWF (laW w' t p r (w' 10 p).toNat) := by
  have hM := (h.1.2 p hp.1 hp.2).1
  have hn : (w' 10 p).toNat = (ancL w p).length := by have := hM.1; omega
  obtain ⟨g1, g2, g3, g4, g5⟩ := laW_all (r := r) hw (T := w 0 0) ⟨by omega, hT.2⟩ (by omega) h.2.1 hM hL (ancL_rg hb hT.1 hp.1 (by omega)) (ancL w p).length (Nat.le_refl _)
  rw [hn]
  rw [List.take_length] at g2
  refine ⟨⟨⟨fun k j a b c => by rw [laW_k b c]; exact h.1.1 k j a b c, fun x h0 h1 => ?_⟩, g2, fun b b0 b1 => by rw [isa_la]; exact h.2.2 b b0 b1⟩, g1⟩
  obtain ⟨r1, r2⟩ := h.1.2 x h0 h1
  have := rgL_le (ancL_rg hb hT.1 h0 (by omega)) (by omega)
  exact ⟨g5 x _ (by omega) (by omega) r1, fun b b0 b1 => by rw [isa_la]; exact r2 b b0 b1⟩
/-- row t while the rows' own places are set: f below n has them already -/
theorem stL.row {w w' : mW} {t : Int} {b : Nat} {c : Bool} {L : List Int} {f g : Int → Bool} (hT : w 0 0 ≤ 60) (hb : (b : Int) < w 0 0) (h : stL w w' t L (fun x => f x || (decide (x < b) && g x))) (hc : c = true → g b = true) (hc2 : g b = true → c = true) : stL w (if c then mset w' 8 (60 * t + b) 1 else w') t L (fun x => f x || (decide (x < ((b + 1 : Nat) : Int)) && g x)) := by
  have hlast : ∀ x : Int, x ≠ b → (decide (x < (b : Int)) && g x) = (decide (x < ((b + 1 : Nat) : Int)) && g x) := fun x hx => by
    congr 1
    exact decide_eq_decide.mpr ⟨fun h => by omega, fun h => by omega⟩
  by_cases hcc : c = true
  · rw [if_pos hcc]
    have e1 : (1 : Int) = bI true := rfl
    rw [e1]
    refine ⟨h.1.set8 hT (by omega), rowL_eq h.2.1 (mset_k (by decide)) (fun k _ => mset_k (by decide)), fun x x0 x1 => ?_⟩
    show mb (mset _ 8 _ _) 8 _ = _
    by_cases hx : x = b
    · subst hx
      show _ = (f b || (decide ((b : Int) < ((b + 1 : Nat) : Int)) && g b))
      rw [mb_set, hc hcc, show decide ((b : Int) < ((b + 1 : Nat) : Int)) = true from decide_eq_true (by omega)]; simp
    · rw [mb_i (by omega)]
      have := h.2.2 x x0 x1
      show isa _ _ _ = (f x || (decide (x < ((b + 1 : Nat) : Int)) && g x))
      rw [this]
      show (f x || (decide (x < (b : Int)) && g x)) = _
      rw [hlast x hx]
  · rw [if_neg hcc]
    refine ⟨h.1, h.2.1, fun x x0 x1 => ?_⟩
    rw [h.2.2 x x0 x1]
    show (f x || (decide (x < (b : Int)) && g x)) = (f x || (decide (x < ((b + 1 : Nat) : Int)) && g x))
    by_cases hx : x = b
    · subst hx
      have : g b = false := Bool.eq_false_iff.mpr (fun z => hcc (hc2 z))
      rw [this]; simp
    · rw [hlast x hx]
theorem stL.eqf {w w' : mW} {t : Int} {L L' : List Int} {f g : Int → Bool} (h : stL w w' t L f) (hL : L = L') (hf : ∀ b : Int, 0 ≤ b → b < w 0 0 → f b = g b) : stL w w' t L' g := ⟨h.1, hL ▸ h.2.1, fun b b0 b1 => (h.2.2 b b0 b1).trans (hf b b0 b1)⟩
theorem stL.fin {w w' : mW} {t : Int} (h : stL w w' t (ancL w t) (isaL w t)) : sBase w w' (t + 1) := by
  refine ⟨h.1.1, fun x h0 h1 => ?_⟩
  by_cases hx : x = t
  · subst hx; exact ⟨h.2.1, h.2.2⟩
  · exact h.1.2 x h0 (by omega)
theorem rowS_f {w : mW} {rec : Int → Int → Bool} {t b : Int} (h : w 1 t ≠ 4 ∨ w 4 t < 8) : rowS w rec t b = false := by
  unfold rowS
  rcases h with h | h
  · rw [decide_eq_false h]; rfl
  · rw [show decide (8 ≤ w 4 t) = false from decide_eq_false (by omega)]; simp
theorem rowS_v {w : mW} {rec : Int → Int → Bool} {t b : Int} (h : w 1 t = 4 ∧ 8 ≤ w 4 t) (h2 : w 1 b = 4 ∧ 8 ≤ w 4 b) : rowS w rec t b = rec (w 4 t) (w 4 b) := by
  unfold rowS
  rw [decide_eq_true h.1, decide_eq_true h.2, decide_eq_true h2.1, decide_eq_true h2.2]; rfl
theorem rowS_g {w : mW} {rec : Int → Int → Bool} {t b : Int} (h : w 1 b ≠ 4 ∨ w 4 b < 8) : rowS w rec t b = false := by
  unfold rowS
  rcases h with h | h
  · rw [decide_eq_false h]; simp
  · rw [show decide (8 ≤ w 4 b) = false from decide_eq_false (by omega)]; simp
set_option maxRecDepth 100000 in
theorem k7_layOut {l : Launch} {θ : zTh} {N : zMap} {am : Nat} {ar : Nat → Nat} {w : mW} (hD : mDis am ar) (hw : mWF w)   (hB : mB w) (hb : mBT w) : ZM θ l yX7_layOut cX7_layOut 4 none ⟨3, 0, 0, 71⟩ [.ref (am)] (mP θ am ar w N) (fun v Q => v = none ∧ ∃ w', Q = mP θ am ar w' N ∧ mWF w' ∧ sBase w w' (w 0 0)) := by
  refine z_start (own := RX7) (nm := "layOut") pnX7 rfl rfl (Nat.le_of_ble_eq_true rfl) ?_
  intro κ hκ hκl C
  change Z κ (mP θ am ar w N) 0 0 0 [(0, .ref (am))] []
  have hB' := hB; obtain ⟨hB1, hB2, hB3, hB4, hB5, hB6⟩ := hB'
  refine z_iconst C 1 dX7_layOut_0 rfl ?_
  refine z_istore_n (lv' := [(0, .ref (am)), (1, .int (iI (0)))]) C 2 [1, 0] dX7_layOut_1 (by decide) rfl rfl ?_
  have L2_1 : ∀ (fu : Nat) (t : Nat) (u : mW) (hk : (t : Int) ≤ w 0 0) (hu : mWF u) (hs0 : sBase w u t) (hme : (w 0 0).toNat - t < fu), Z κ (mP θ am ar u N) 0 0 2 [(0, .ref (am)), (1, .int (iI ((t : Int))))] [] := by
    intro fu
    induction fu with
    | zero => intro t u hk hu hs0 hme; exact absurd hme (Nat.not_lt_zero _)
    | succ fu ih2 =>
      intro t u hk hu hs0 hme
      have q0 : u 0 0 = w 0 0 := hs0.1 0 0 (by decide) (by decide) (by decide)
      refine z_iload_n C 3 1 dX7_layOut_2 rfl rfl ?_
      refine z_aload_n C 4 0 dX7_layOut_3 rfl rfl ?_
      refine m_geti C hκ 7 0 (by decide) rfl q1995 rfl dX7_layOut_4 rfl ?_
      refine z_icmp_ge C 296 10 dX7_layOut_7 (by decide) ⟨by omega, by omega⟩ ⟨by omega, by omega⟩ rfl (fun c3 => ?_) (fun c3 => ?_)
      · skip
        exact z_vret C dX7_layOut_296 (Nat.le_of_ble_eq_true rfl) (Nat.le_of_ble_eq_true rfl) ⟨rfl, u, rfl, hu, (show (t : Int) = w 0 0 by omega) ▸ hs0⟩
      · skip
        have ht : (t : Int) < w 0 0 := by omega
        have L283_4 : ∀ (fu : Nat) (w' : mW) (hw' : mWF w') (hs : stL w w' t (facS w (ancL w) t (ancS1 w (ancL w) t) (w 6 t).toNat) (isaL w t)) (rL : rgL (w 0 0) (facS w (ancL w) t (ancS1 w (ancL w) t) (w 6 t).toNat)) (h8 : 8 ≤ (t : Int)) (hme : 0 < fu), Z κ (mP θ am ar w' N) 0 0 283 [(0, .ref (am)), (1, .int (iI ((t : Int))))] [] := by
          intro fu
          induction fu with
          | zero => intro w' hw' hs rL h8 hme; exact absurd hme (Nat.not_lt_zero _)
          | succ fu ih5 =>
            intro w' hw' hs rL h8 hme
            have q0 : w' 0 0 = w 0 0 := hs.1.1 0 0 (by decide) (by decide) (by decide)
            have q6 : w' 6 t = w 6 t := hs.1.1 6 t (by decide) (by decide) (by decide)
            obtain ⟨b1, b2, b3, b4, b5⟩ := hb t (by omega) ht
            have hl0 := hs.len (a := 8) ⟨hB1, hB2⟩ rL (show 0 ≤ (8 : Int) ∧ 8 < w 0 0 by omega)
            refine z_aload_n C 284 0 dX7_layOut_283 rfl rfl ?_
            refine z_iload_n C 285 1 dX7_layOut_284 rfl rfl ?_
            refine z_bipush C 287 dX7_layOut_285 (by decide) rfl ?_
            refine z_callVF0 (n' := 0) (k' := 0) (As := [.int (iI ((t : Int))), .int (iI (8))]) (rest := []) C hκ hκl 290 (k7_list hD hw' ((t : Int)) (8) ⟨by omega, by omega⟩ ⟨by decide, by decide⟩ (by omega) hl0.1 hl0.2) dX7_layOut_287 q1979 q1981 qs35 q97 q1982 znX7_list (Nat.le_of_ble_eq_true rfl) (Nat.le_of_ble_eq_true rfl) (Nat.le_of_ble_eq_true rfl) (Nat.le_of_ble_eq_true rfl) mrec rfl rfl (Nat.le_of_ble_eq_true rfl) rfl rfl rfl ?_
            obtain ⟨w1, ew1⟩ : ∃ w9, listW w' ((t : Int)) (8) = w9 := ⟨_, rfl⟩
            rw [ew1]
            have hw1 : mWF w1 := ew1 ▸ (listW_wf hw' (by first | assumption | exact ⟨by omega, by omega⟩) ⟨by omega, by omega⟩)
            have hz := stL.list hb ⟨hB1, hB2⟩ ⟨by omega, ht⟩ hs rL (show 0 ≤ (8 : Int) ∧ 8 < w 0 0 by omega)
            rw [ew1] at hz
            have hfin := stL.fin (hz.eqf (L' := ancL w t) (g := isaL w t) (by rw [ancL_eq hb (by omega) ht]; unfold ancS; rw [if_neg (by omega)]) (fun _ _ _ => rfl))
            refine z_iinc (lv' := [(0, .ref (am)), (1, .int (iI (((t : Int)) + 1)))]) C 293 1 [1, 0] dX7_layOut_290 rfl (by decide) rfl rfl ?_
            refine z_goto C 2 dX7_layOut_293 (by decide) ?_
            refine z_as (lv' := [(0, .ref (am)), (1, .int (iI (((t + 1) : Int))))]) rfl rfl rfl ?_
            exact ih2 (t + 1) (w1) (by omega) hw1 hfin (by omega)
        have L212_6 : ∀ (fu : Nat) (w' : mW) (b : Nat) (hw' : mWF w') (hs : stL w w' t (facS w (ancL w) t (ancS1 w (ancL w) t) (w 6 t).toNat) (fun x => is2S w (isaL w) t x (w 6 t).toNat || (decide (x < (b : Int)) && rowS w (isaL w) t x))) (rL : rgL (w 0 0) (facS w (ancL w) t (ancS1 w (ancL w) t) (w 6 t).toNat)) (h8 : 8 ≤ (t : Int)) (hbk : (b : Int) ≤ w 0 0) (ht4 : w 1 t = 4 ∧ 8 ≤ w 4 t) (hme : (w 0 0).toNat - b < fu), Z κ (mP θ am ar w' N) 0 0 212 [(0, .ref (am)), (1, .int (iI ((t : Int)))), (3, .int (iI ((b : Int))))] [] := by
          intro fu
          induction fu with
          | zero => intro w' b hw' hs rL h8 hbk ht4 hme; exact absurd hme (Nat.not_lt_zero _)
          | succ fu ih7 =>
            intro w' b hw' hs rL h8 hbk ht4 hme
            have q0 : w' 0 0 = w 0 0 := hs.1.1 0 0 (by decide) (by decide) (by decide)
            have q6 : w' 6 t = w 6 t := hs.1.1 6 t (by decide) (by decide) (by decide)
            obtain ⟨b1, b2, b3, b4, b5⟩ := hb t (by omega) ht
            refine z_iload_n C 213 2 dX7_layOut_212 rfl rfl ?_
            refine z_aload_n C 214 0 dX7_layOut_213 rfl rfl ?_
            refine m_geti C hκ 217 0 (by decide) rfl q1995 rfl dX7_layOut_214 rfl ?_
            refine z_icmp_ge C 283 220 dX7_layOut_217 (by decide) ⟨by omega, by omega⟩ ⟨by omega, by omega⟩ rfl (fun c8 => ?_) (fun c8 => ?_)
            · skip
              refine z_sub [0, 1] (lv' := [(0, .ref (am)), (1, .int (iI ((t : Int))))]) rfl ?_
              refine z_as (lv' := [(0, .ref (am)), (1, .int (iI ((t : Int))))]) rfl rfl rfl ?_
              exact L283_4 _ (w') hw' (hs.eqf rfl (fun x x0 x1 => by rw [isaL_eq hb (by omega) ht]; unfold isaS; rw [if_neg (by omega), show decide (x < (b : Int)) = true from decide_eq_true (by omega), Bool.true_and])) rL h8 (Nat.lt_succ_self _)
            · skip
              have q4 : w' 4 t = w 4 t := hs.1.1 4 t (by decide) (by decide) (by decide)
              have q9 : w' 1 b = w 1 b := hs.1.1 1 b (by decide) (by decide) (by decide)
              have q10 : w' 4 b = w 4 b := hs.1.1 4 b (by decide) (by decide) (by decide)
              obtain ⟨d1, d2, d3, d4, d5⟩ := hb b (by omega) (by omega)
              refine z_aload_n C 221 0 dX7_layOut_220 rfl rfl ?_
              refine m_geta C hκ 224 1 (by decide) rfl q1996 rfl dX7_layOut_221 rfl ?_
              refine z_iload_n C 225 2 dX7_layOut_224 rfl rfl ?_
              refine m_iald (len := 60) C hκ hD 226 1 (by decide) rfl rfl (by omega) (by omega) dX7_layOut_225 rfl ?_
              refine z_iconst C 227 dX7_layOut_226 rfl ?_
              refine z_icmp_ne C 277 230 dX7_layOut_227 (by decide) ⟨by omega, by omega⟩ ⟨by decide, by decide⟩ rfl (fun c9 => ?_) (fun c9 => ?_)
              · skip
                have hs3 := hs.row (c := false) (g := rowS w (isaL w) t) hB2 (by omega) (fun z => by cases z) (fun z => by unfold rowS at z; simp_all <;> omega)
                rw [if_neg (by decide)] at hs3
                refine z_iinc (lv' := [(0, .ref (am)), (1, .int (iI ((t : Int)))), (3, .int (iI (((b : Int)) + 1)))]) C 280 2 [1, 2, 0] dX7_layOut_277 rfl (by decide) rfl rfl ?_
                refine z_goto C 212 dX7_layOut_280 (by decide) ?_
                refine z_as (lv' := [(0, .ref (am)), (1, .int (iI ((t : Int)))), (3, .int (iI (((b + 1) : Int))))]) rfl rfl rfl ?_
                exact ih7 (w') (b + 1) hw' hs3 rL h8 (by omega) ht4 (by omega)
              · skip
                refine z_aload_n C 231 0 dX7_layOut_230 rfl rfl ?_
                refine m_geta C hκ 234 4 (by decide) rfl q1999 rfl dX7_layOut_231 rfl ?_
                refine z_iload_n C 235 2 dX7_layOut_234 rfl rfl ?_
                refine m_iald (len := 60) C hκ hD 236 4 (by decide) rfl rfl (by omega) (by omega) dX7_layOut_235 rfl ?_
                refine z_bipush C 238 dX7_layOut_236 (by decide) rfl ?_
                refine z_icmp_lt C 277 241 dX7_layOut_238 (by decide) ⟨by omega, by omega⟩ ⟨by decide, by decide⟩ rfl (fun c10 => ?_) (fun c10 => ?_)
                · skip
                  have hs3 := hs.row (c := false) (g := rowS w (isaL w) t) hB2 (by omega) (fun z => by cases z) (fun z => by unfold rowS at z; simp_all <;> omega)
                  rw [if_neg (by decide)] at hs3
                  refine z_iinc (lv' := [(0, .ref (am)), (1, .int (iI ((t : Int)))), (3, .int (iI (((b : Int)) + 1)))]) C 280 2 [1, 2, 0] dX7_layOut_277 rfl (by decide) rfl rfl ?_
                  refine z_goto C 212 dX7_layOut_280 (by decide) ?_
                  refine z_as (lv' := [(0, .ref (am)), (1, .int (iI ((t : Int)))), (3, .int (iI (((b + 1) : Int))))]) rfl rfl rfl ?_
                  exact ih7 (w') (b + 1) hw' hs3 rL h8 (by omega) ht4 (by omega)
                · skip
                  have q11 := (hs.1.2 (w' 4 t) (by omega) (by omega)).2 (w' 4 b) (by omega) (by omega)
                  refine z_aload_n C 242 0 dX7_layOut_241 rfl rfl ?_
                  refine m_geta C hκ 245 8 (by decide) rfl q2003 rfl dX7_layOut_242 rfl ?_
                  refine z_bipush C 247 dX7_layOut_245 (by decide) rfl ?_
                  refine z_aload_n C 248 0 dX7_layOut_247 rfl rfl ?_
                  refine m_geta C hκ 251 4 (by decide) rfl q1999 rfl dX7_layOut_248 rfl ?_
                  refine z_iload_n C 252 1 dX7_layOut_251 rfl rfl ?_
                  refine m_iald (len := 60) C hκ hD 253 4 (by decide) rfl rfl (by omega) (by omega) dX7_layOut_252 rfl ?_
                  refine z_imul C 254 dX7_layOut_253 rfl ?_
                  refine z_aload_n C 255 0 dX7_layOut_254 rfl rfl ?_
                  refine m_geta C hκ 258 4 (by decide) rfl q1999 rfl dX7_layOut_255 rfl ?_
                  refine z_iload_n C 259 2 dX7_layOut_258 rfl rfl ?_
                  refine m_iald (len := 60) C hκ hD 260 4 (by decide) rfl rfl (by omega) (by omega) dX7_layOut_259 rfl ?_
                  refine z_iadd C 261 dX7_layOut_260 rfl ?_
                  refine m_bald (len := 3600) C hκ hD hw' 262 8 (by decide) rfl rfl rfl (by omega) (by omega) dX7_layOut_261 rfl ?_
                  refine z_ifB_eq C 277 265 dX7_layOut_262 (by decide) rfl (fun c11 => ?_) (fun c11 => ?_)
                  · skip
                    have hs3 := hs.row (c := false) (g := rowS w (isaL w) t) hB2 (by omega) (fun z => by cases z) (fun z => by unfold rowS at z; simp_all <;> omega)
                    rw [if_neg (by decide)] at hs3
                    refine z_iinc (lv' := [(0, .ref (am)), (1, .int (iI ((t : Int)))), (3, .int (iI (((b : Int)) + 1)))]) C 280 2 [1, 2, 0] dX7_layOut_277 rfl (by decide) rfl rfl ?_
                    refine z_goto C 212 dX7_layOut_280 (by decide) ?_
                    refine z_as (lv' := [(0, .ref (am)), (1, .int (iI ((t : Int)))), (3, .int (iI (((b + 1) : Int))))]) rfl rfl rfl ?_
                    exact ih7 (w') (b + 1) hw' hs3 rL h8 (by omega) ht4 (by omega)
                  · skip
                    refine z_aload_n C 266 0 dX7_layOut_265 rfl rfl ?_
                    refine m_geta C hκ 269 8 (by decide) rfl q2003 rfl dX7_layOut_266 rfl ?_
                    refine z_bipush C 271 dX7_layOut_269 (by decide) rfl ?_
                    refine z_iload_n C 272 1 dX7_layOut_271 rfl rfl ?_
                    refine z_imul C 273 dX7_layOut_272 rfl ?_
                    refine z_iload_n C 274 2 dX7_layOut_273 rfl rfl ?_
                    refine z_iadd C 275 dX7_layOut_274 rfl ?_
                    refine z_iconst C 276 dX7_layOut_275 rfl ?_
                    obtain ⟨w2, ew2⟩ : ∃ w9, mset w' 8 (((60) * ((t : Int))) + ((b : Int))) (1) = w9 := ⟨_, rfl⟩
                    have hw2 : mWF w2 := ew2 ▸ hw'.setB (Or.inr rfl)
                    refine m_bast (len := 3600) (w' := w2) C hκ hD 277 8 (by decide) rfl rfl (by omega) (by omega) (Or.inr rfl) dX7_layOut_276 rfl ew2 ?_
                    have hs3 := hs.row (c := true) (g := rowS w (isaL w) t) hB2 (by omega) (fun _ => by unfold rowS; simp_all) (fun _ => rfl)
                    rw [if_pos rfl, ew2] at hs3
                    refine z_iinc (lv' := [(0, .ref (am)), (1, .int (iI ((t : Int)))), (3, .int (iI (((b : Int)) + 1)))]) C 280 2 [1, 2, 0] dX7_layOut_277 rfl (by decide) rfl rfl ?_
                    refine z_goto C 212 dX7_layOut_280 (by decide) ?_
                    refine z_as (lv' := [(0, .ref (am)), (1, .int (iI ((t : Int)))), (3, .int (iI (((b + 1) : Int))))]) rfl rfl rfl ?_
                    exact ih7 (w2) (b + 1) hw2 hs3 rL h8 (by omega) ht4 (by omega)
        have L189_12 : ∀ (fu : Nat) (w' : mW) (hw' : mWF w') (hs : stL w w' t (facS w (ancL w) t (ancS1 w (ancL w) t) (w 6 t).toNat) (fun b => is2S w (isaL w) t b (w 6 t).toNat)) (rL : rgL (w 0 0) (facS w (ancL w) t (ancS1 w (ancL w) t) (w 6 t).toNat)) (h8 : 8 ≤ (t : Int)) (hme : 0 < fu), Z κ (mP θ am ar w' N) 0 0 189 [(0, .ref (am)), (1, .int (iI ((t : Int))))] [] := by
          intro fu
          induction fu with
          | zero => intro w' hw' hs rL h8 hme; exact absurd hme (Nat.not_lt_zero _)
          | succ fu ih13 =>
            intro w' hw' hs rL h8 hme
            have q0 : w' 0 0 = w 0 0 := hs.1.1 0 0 (by decide) (by decide) (by decide)
            have q6 : w' 6 t = w 6 t := hs.1.1 6 t (by decide) (by decide) (by decide)
            obtain ⟨b1, b2, b3, b4, b5⟩ := hb t (by omega) ht
            have q3 : w' 1 t = w 1 t := hs.1.1 1 t (by decide) (by decide) (by decide)
            have q4 : w' 4 t = w 4 t := hs.1.1 4 t (by decide) (by decide) (by decide)
            refine z_aload_n C 190 0 dX7_layOut_189 rfl rfl ?_
            refine m_geta C hκ 193 1 (by decide) rfl q1996 rfl dX7_layOut_190 rfl ?_
            refine z_iload_n C 194 1 dX7_layOut_193 rfl rfl ?_
            refine m_iald (len := 60) C hκ hD 195 1 (by decide) rfl rfl (by omega) (by omega) dX7_layOut_194 rfl ?_
            refine z_iconst C 196 dX7_layOut_195 rfl ?_
            refine z_icmp_ne C 283 199 dX7_layOut_196 (by decide) ⟨by omega, by omega⟩ ⟨by decide, by decide⟩ rfl (fun c14 => ?_) (fun c14 => ?_)
            · skip
              refine z_as (lv' := [(0, .ref (am)), (1, .int (iI ((t : Int))))]) rfl rfl rfl ?_
              exact L283_4 _ (w') hw' (hs.eqf rfl (fun b b0 b1 => by rw [isaL_eq hb (by omega) ht]; unfold isaS; rw [if_neg (by omega), rowS_f (by omega), Bool.or_false])) rL h8 (Nat.lt_succ_self _)
            · skip
              refine z_aload_n C 200 0 dX7_layOut_199 rfl rfl ?_
              refine m_geta C hκ 203 4 (by decide) rfl q1999 rfl dX7_layOut_200 rfl ?_
              refine z_iload_n C 204 1 dX7_layOut_203 rfl rfl ?_
              refine m_iald (len := 60) C hκ hD 205 4 (by decide) rfl rfl (by omega) (by omega) dX7_layOut_204 rfl ?_
              refine z_bipush C 207 dX7_layOut_205 (by decide) rfl ?_
              refine z_icmp_lt C 283 210 dX7_layOut_207 (by decide) ⟨by omega, by omega⟩ ⟨by decide, by decide⟩ rfl (fun c15 => ?_) (fun c15 => ?_)
              · skip
                refine z_as (lv' := [(0, .ref (am)), (1, .int (iI ((t : Int))))]) rfl rfl rfl ?_
                exact L283_4 _ (w') hw' (hs.eqf rfl (fun b b0 b1 => by rw [isaL_eq hb (by omega) ht]; unfold isaS; rw [if_neg (by omega), rowS_f (by omega), Bool.or_false])) rL h8 (Nat.lt_succ_self _)
              · skip
                refine z_iconst C 211 dX7_layOut_210 rfl ?_
                refine z_istore_n (lv' := [(0, .ref (am)), (1, .int (iI ((t : Int)))), (3, .int (iI (0)))]) C 212 [1, 2, 0] dX7_layOut_211 (by decide) rfl rfl ?_
                refine z_as (lv' := [(0, .ref (am)), (1, .int (iI ((t : Int)))), (3, .int (iI (((0) : Int))))]) rfl rfl rfl ?_
                exact L212_6 _ (w') (0) hw' (hs.eqf rfl (fun x x0 x1 => by rw [show decide (x < ((0 : Nat) : Int)) = false from decide_eq_false (by omega)]; simp)) rL h8 (by omega) (by rw [q3, q4] at *; omega) (Nat.lt_succ_self _)
        have L142_16 : ∀ (fu : Nat) (w' : mW) (cl : Bool) (j : Nat) (hw' : mWF w') (hs : stL w w' t (facS w (ancL w) t (ancS1 w (ancL w) t) j) (fun b => is2S w (isaL w) t b j)) (rL : rgL (w 0 0) (facS w (ancL w) t (ancS1 w (ancL w) t) j)) (hcl : cl = clT w t) (h8 : 8 ≤ (t : Int)) (hj : (j : Int) ≤ w 6 t) (hme : (w 6 t).toNat - j < fu), Z κ (mP θ am ar w' N) 0 0 142 [(0, .ref (am)), (1, .int (iI ((t : Int)))), (2, .int (iI (bI (cl)))), (3, .int (iI ((j : Int))))] [] := by
          intro fu
          induction fu with
          | zero => intro w' cl j hw' hs rL hcl h8 hj hme; exact absurd hme (Nat.not_lt_zero _)
          | succ fu ih17 =>
            intro w' cl j hw' hs rL hcl h8 hj hme
            have q0 : w' 0 0 = w 0 0 := hs.1.1 0 0 (by decide) (by decide) (by decide)
            have q6 : w' 6 t = w 6 t := hs.1.1 6 t (by decide) (by decide) (by decide)
            obtain ⟨b1, b2, b3, b4, b5⟩ := hb t (by omega) ht
            refine z_iload_n C 143 3 dX7_layOut_142 rfl rfl ?_
            refine z_aload_n C 144 0 dX7_layOut_143 rfl rfl ?_
            refine m_geta C hκ 147 6 (by decide) rfl q2001 rfl dX7_layOut_144 rfl ?_
            refine z_iload_n C 148 1 dX7_layOut_147 rfl rfl ?_
            refine m_iald (len := 60) C hκ hD 149 6 (by decide) rfl rfl (by omega) (by omega) dX7_layOut_148 rfl ?_
            refine z_icmp_ge C 189 152 dX7_layOut_149 (by decide) ⟨by omega, by omega⟩ ⟨by omega, by omega⟩ rfl (fun c18 => ?_) (fun c18 => ?_)
            · skip
              refine z_sub [0, 1] (lv' := [(0, .ref (am)), (1, .int (iI ((t : Int))))]) rfl ?_
              refine z_as (lv' := [(0, .ref (am)), (1, .int (iI ((t : Int))))]) rfl rfl rfl ?_
              exact L189_12 _ (w') hw' ((show j = (w 6 t).toNat by omega) ▸ hs) ((show j = (w 6 t).toNat by omega) ▸ rL) h8 (Nat.lt_succ_self _)
            · skip
              have b4' := b4 j (by omega) (by omega)
              have q7 : w' 7 (3 * t + j) = w 7 (3 * t + j) := hs.1.1 7 _ (by decide) (by decide) (by decide)
              have r7 : inR (w' 7 (3 * t + j)) := ⟨by omega, by omega⟩
              refine z_aload_n C 153 0 dX7_layOut_152 rfl rfl ?_
              refine z_iload_n C 154 1 dX7_layOut_153 rfl rfl ?_
              refine z_aload_n C 155 0 dX7_layOut_154 rfl rfl ?_
              refine m_geta C hκ 158 7 (by decide) rfl q2002 rfl dX7_layOut_155 rfl ?_
              refine z_iconst C 159 dX7_layOut_158 rfl ?_
              refine z_iload_n C 160 1 dX7_layOut_159 rfl rfl ?_
              refine z_imul C 161 dX7_layOut_160 rfl ?_
              refine z_iload_n C 162 3 dX7_layOut_161 rfl rfl ?_
              refine z_iadd C 163 dX7_layOut_162 rfl ?_
              refine m_iald (len := 180) C hκ hD 164 7 (by decide) rfl rfl (by omega) (by omega) dX7_layOut_163 rfl ?_
              refine z_callVF0 (n' := 0) (k' := 0) (As := [.int (iI ((t : Int))), .int (iI (w' 7 (((3) * ((t : Int))) + ((j : Int)))))]) (rest := []) C hκ hκl 167 (k7_takeOver hD hw' ((t : Int)) (w' 7 (((3) * ((t : Int))) + ((j : Int)))) ⟨by omega, by omega⟩ ⟨by omega, by omega⟩ (mB_of hB (hs.1.1 0 0 (by decide) (by decide) (by decide)) (hs.1.1 11 0 (by decide) (by decide) (by decide)) (hs.1.1 27 0 (by decide) (by decide) (by decide))) (by omega) (by omega)) dX7_layOut_164 q1987 q1989 qs37 q97 q1990 znX7_takeOver (Nat.le_of_ble_eq_true rfl) (Nat.le_of_ble_eq_true rfl) (Nat.le_of_ble_eq_true rfl) (Nat.le_of_ble_eq_true rfl) mrec rfl rfl (Nat.le_of_ble_eq_true rfl) rfl rfl rfl ?_
              obtain ⟨w3, ew3⟩ : ∃ w9, tkW w' ((t : Int)) (w' 7 (((3) * ((t : Int))) + ((j : Int)))) (w' 0 0).toNat = w9 := ⟨_, rfl⟩
              rw [ew3]
              have hw3 : mWF w3 := ew3 ▸ (tkW_wf hw' _)
              have hs1 := stL.take ⟨hB1, hB2⟩ (p := w' 7 (3 * t + j)) ⟨by omega, by omega⟩ hs
              rw [ew3] at hs1
              have q8 : w3 7 (3 * t + j) = w 7 (3 * t + j) := hs1.1.1 7 _ (by decide) (by decide) (by decide)
              have hs9 := stL.la (r := cl) hw3 hb ⟨hB1, hB2⟩ ⟨by omega, ht⟩ (p := w3 7 (3 * t + j)) ⟨by omega, by omega⟩ rL hs1
              refine z_aload_n C 168 0 dX7_layOut_167 rfl rfl ?_
              refine z_iload_n C 169 1 dX7_layOut_168 rfl rfl ?_
              refine z_aload_n C 170 0 dX7_layOut_169 rfl rfl ?_
              refine m_geta C hκ 173 7 (by decide) rfl q2002 rfl dX7_layOut_170 rfl ?_
              refine z_iconst C 174 dX7_layOut_173 rfl ?_
              refine z_iload_n C 175 1 dX7_layOut_174 rfl rfl ?_
              refine z_imul C 176 dX7_layOut_175 rfl ?_
              refine z_iload_n C 177 3 dX7_layOut_176 rfl rfl ?_
              refine z_iadd C 178 dX7_layOut_177 rfl ?_
              refine m_iald (len := 180) C hκ hD 179 7 (by decide) rfl rfl (by omega) (by omega) dX7_layOut_178 rfl ?_
              refine z_iload_n C 180 2 dX7_layOut_179 rfl rfl ?_
              refine z_callVF0 (n' := 0) (k' := 0) (As := [.int (iI ((t : Int))), .int (iI (w3 7 (((3) * ((t : Int))) + ((j : Int))))), .int (iI (bI (cl)))]) (rest := []) C hκ hκl 183 (k7_listAll hD hw3 ((t : Int)) (w3 7 (((3) * ((t : Int))) + ((j : Int)))) (cl) ⟨by omega, by omega⟩ (hw3.r _ _ rfl) (by omega) (by omega) ⟨by omega, hB2⟩ (by omega) hs1.2.1 (hs1.1.2 (w3 7 (3 * t + j)) (by omega) (by omega)).1 rL (ancL_rg hb hB1 (by omega) (by omega))) dX7_layOut_180 q1991 q1993 qs38 q97 q1994 znX7_listAll (Nat.le_of_ble_eq_true rfl) (Nat.le_of_ble_eq_true rfl) (Nat.le_of_ble_eq_true rfl) (Nat.le_of_ble_eq_true rfl) mrec rfl rfl (Nat.le_of_ble_eq_true rfl) rfl rfl rfl ?_
              obtain ⟨w4, ew4⟩ : ∃ w9, laW w3 ((t : Int)) (w3 7 (((3) * ((t : Int))) + ((j : Int)))) (cl) (w3 10 (w3 7 (((3) * ((t : Int))) + ((j : Int))))).toNat = w9 := ⟨_, rfl⟩
              rw [ew4]
              have hw4 : mWF w4 := ew4 ▸ (hs9).2
              have hs2 := hs9.1
              rw [ew4] at hs2
              have hs3 := hs2.eqf (L' := facS w (ancL w) t (ancS1 w (ancL w) t) (j + 1)) (g := fun b => is2S w (isaL w) t b (j + 1)) (by simp only [facS]; rw [q8, hcl]) (fun b b0 b1 => by simp only [is2S, anyN]; rw [q7, Bool.or_assoc])
              have rL3 : rgL (w 0 0) (facS w (ancL w) t (ancS1 w (ancL w) t) (j + 1)) := adA_rg (fun x hx => (ancL_rg hb hB1 (by omega) (by omega)).2 x hx) rL
              refine z_iinc (lv' := [(0, .ref (am)), (1, .int (iI ((t : Int)))), (2, .int (iI (bI (cl)))), (3, .int (iI (((j : Int)) + 1)))]) C 186 3 [1, 2, 3, 0] dX7_layOut_183 rfl (by decide) rfl rfl ?_
              refine z_goto C 142 dX7_layOut_186 (by decide) ?_
              refine z_as (lv' := [(0, .ref (am)), (1, .int (iI ((t : Int)))), (2, .int (iI (bI ((cl))))), (3, .int (iI (((j + 1) : Int))))]) rfl rfl rfl ?_
              exact ih17 (w4) (cl) (j + 1) hw4 hs3 rL3 hcl h8 (by omega) (by omega)
        have L107_19 : ∀ (fu : Nat) (w' : mW) (cl : Bool) (hw' : mWF w') (hs : stL w w' t ([(t : Int)]) (basB t)) (rL : rgL (w 0 0) ([(t : Int)])) (hcl : cl = clT w t) (h8 : 8 ≤ (t : Int)) (hme : 0 < fu), Z κ (mP θ am ar w' N) 0 0 107 [(0, .ref (am)), (1, .int (iI ((t : Int)))), (2, .int (iI (bI (cl))))] [] := by
          intro fu
          induction fu with
          | zero => intro w' cl hw' hs rL hcl h8 hme; exact absurd hme (Nat.not_lt_zero _)
          | succ fu ih20 =>
            intro w' cl hw' hs rL hcl h8 hme
            have q0 : w' 0 0 = w 0 0 := hs.1.1 0 0 (by decide) (by decide) (by decide)
            have q6 : w' 6 t = w 6 t := hs.1.1 6 t (by decide) (by decide) (by decide)
            obtain ⟨b1, b2, b3, b4, b5⟩ := hb t (by omega) ht
            refine z_iload_n C 108 2 dX7_layOut_107 rfl rfl ?_
            refine z_ifB_eq C 140 111 dX7_layOut_108 (by decide) rfl (fun c21 => ?_) (fun c21 => ?_)
            · skip
              have hc7 : (clT w t && decide ((t : Int) ≠ 8)) = false := by rw [← hcl]; simp_all
              have hs3 := hs.eqf (L' := ancS1 w (ancL w) t) (g := is1S w (isaL w) t) (by unfold ancS1; rw [hc7]; rfl) (fun b b0 b1 => by unfold is1S; rw [hc7]; simp)
              have rL3 := ancS1_rg hb (t := (t : Int)) (by omega) ht (rec := ancL w) (fun x h1 h2 => ancL_rg hb hB1 (by omega) (by omega))
              refine z_iconst C 141 dX7_layOut_140 rfl ?_
              refine z_istore_n (lv' := [(0, .ref (am)), (1, .int (iI ((t : Int)))), (2, .int (iI (bI (cl)))), (3, .int (iI (0)))]) C 142 [1, 2, 3, 0] dX7_layOut_141 (by decide) rfl rfl ?_
              refine z_as (lv' := [(0, .ref (am)), (1, .int (iI ((t : Int)))), (2, .int (iI (bI ((cl))))), (3, .int (iI (((0) : Int))))]) rfl rfl rfl ?_
              exact L142_16 _ (w') (cl) (0) hw' (hs3.eqf rfl (fun b b0 b1 => by unfold is2S anyN; simp)) rL3 hcl h8 (by omega) (Nat.lt_succ_self _)
            · skip
              refine z_iload_n C 112 1 dX7_layOut_111 rfl rfl ?_
              refine z_bipush C 114 dX7_layOut_112 (by decide) rfl ?_
              refine z_icmp_eq C 140 117 dX7_layOut_114 (by decide) ⟨by omega, by omega⟩ ⟨by decide, by decide⟩ rfl (fun c22 => ?_) (fun c22 => ?_)
              · skip
                have hc7 : (clT w t && decide ((t : Int) ≠ 8)) = false := by rw [← hcl]; simp_all
                have hs3 := hs.eqf (L' := ancS1 w (ancL w) t) (g := is1S w (isaL w) t) (by unfold ancS1; rw [hc7]; rfl) (fun b b0 b1 => by unfold is1S; rw [hc7]; simp)
                have rL3 := ancS1_rg hb (t := (t : Int)) (by omega) ht (rec := ancL w) (fun x h1 h2 => ancL_rg hb hB1 (by omega) (by omega))
                refine z_iconst C 141 dX7_layOut_140 rfl ?_
                refine z_istore_n (lv' := [(0, .ref (am)), (1, .int (iI ((t : Int)))), (2, .int (iI (bI (cl)))), (3, .int (iI (0)))]) C 142 [1, 2, 3, 0] dX7_layOut_141 (by decide) rfl rfl ?_
                refine z_as (lv' := [(0, .ref (am)), (1, .int (iI ((t : Int)))), (2, .int (iI (bI ((cl))))), (3, .int (iI (((0) : Int))))]) rfl rfl rfl ?_
                exact L142_16 _ (w') (cl) (0) hw' (hs3.eqf rfl (fun b b0 b1 => by unfold is2S anyN; simp)) rL3 hcl h8 (by omega) (Nat.lt_succ_self _)
              · skip
                have b2' := b2 (by rw [← hcl]; assumption) (by omega)
                have q2 : w' 2 t = w 2 t := hs.1.1 2 t (by decide) (by decide) (by decide)
                refine z_aload_n C 118 0 dX7_layOut_117 rfl rfl ?_
                refine z_iload_n C 119 1 dX7_layOut_118 rfl rfl ?_
                refine z_aload_n C 120 0 dX7_layOut_119 rfl rfl ?_
                refine m_geta C hκ 123 2 (by decide) rfl q1997 rfl dX7_layOut_120 rfl ?_
                refine z_iload_n C 124 1 dX7_layOut_123 rfl rfl ?_
                refine m_iald (len := 60) C hκ hD 125 2 (by decide) rfl rfl (by omega) (by omega) dX7_layOut_124 rfl ?_
                refine z_callVF0 (n' := 0) (k' := 0) (As := [.int (iI ((t : Int))), .int (iI (w' 2 ((t : Int))))]) (rest := []) C hκ hκl 128 (k7_takeOver hD hw' ((t : Int)) (w' 2 ((t : Int))) ⟨by omega, by omega⟩ ⟨by omega, by omega⟩ (mB_of hB (hs.1.1 0 0 (by decide) (by decide) (by decide)) (hs.1.1 11 0 (by decide) (by decide) (by decide)) (hs.1.1 27 0 (by decide) (by decide) (by decide))) (by omega) (by omega)) dX7_layOut_125 q1987 q1989 qs37 q97 q1990 znX7_takeOver (Nat.le_of_ble_eq_true rfl) (Nat.le_of_ble_eq_true rfl) (Nat.le_of_ble_eq_true rfl) (Nat.le_of_ble_eq_true rfl) mrec rfl rfl (Nat.le_of_ble_eq_true rfl) rfl rfl rfl ?_
                obtain ⟨w5, ew5⟩ : ∃ w9, tkW w' ((t : Int)) (w' 2 ((t : Int))) (w' 0 0).toNat = w9 := ⟨_, rfl⟩
                rw [ew5]
                have hw5 : mWF w5 := ew5 ▸ (tkW_wf hw' _)
                have hs1 := stL.take ⟨hB1, hB2⟩ (p := w' 2 t) ⟨by omega, by omega⟩ hs
                rw [ew5] at hs1
                have q5 : w5 2 t = w 2 t := hs1.1.1 2 t (by decide) (by decide) (by decide)
                have hs9 := stL.la (r := true) hw5 hb ⟨hB1, hB2⟩ ⟨by omega, ht⟩ (p := w5 2 t) ⟨by omega, by omega⟩ rL hs1
                refine z_aload_n C 129 0 dX7_layOut_128 rfl rfl ?_
                refine z_iload_n C 130 1 dX7_layOut_129 rfl rfl ?_
                refine z_aload_n C 131 0 dX7_layOut_130 rfl rfl ?_
                refine m_geta C hκ 134 2 (by decide) rfl q1997 rfl dX7_layOut_131 rfl ?_
                refine z_iload_n C 135 1 dX7_layOut_134 rfl rfl ?_
                refine m_iald (len := 60) C hκ hD 136 2 (by decide) rfl rfl (by omega) (by omega) dX7_layOut_135 rfl ?_
                refine z_iconst C 137 dX7_layOut_136 rfl ?_
                refine z_callVF0 (n' := 0) (k' := 0) (As := [.int (iI ((t : Int))), .int (iI (w5 2 ((t : Int)))), .int (iI (1))]) (rest := []) C hκ hκl 140 (k7_listAll hD hw5 ((t : Int)) (w5 2 ((t : Int))) (true) ⟨by omega, by omega⟩ (hw5.r _ _ rfl) (by omega) (by omega) ⟨by omega, hB2⟩ (by omega) hs1.2.1 (hs1.1.2 (w5 2 t) (by omega) (by omega)).1 rL (ancL_rg hb hB1 (by omega) (by omega))) dX7_layOut_137 q1991 q1993 qs38 q97 q1994 znX7_listAll (Nat.le_of_ble_eq_true rfl) (Nat.le_of_ble_eq_true rfl) (Nat.le_of_ble_eq_true rfl) (Nat.le_of_ble_eq_true rfl) mrec rfl rfl (Nat.le_of_ble_eq_true rfl) rfl rfl rfl ?_
                obtain ⟨w6, ew6⟩ : ∃ w9, laW w5 ((t : Int)) (w5 2 ((t : Int))) (true) (w5 10 (w5 2 ((t : Int)))).toNat = w9 := ⟨_, rfl⟩
                rw [ew6]
                have hw6 : mWF w6 := ew6 ▸ (hs9).2
                have hs2 := hs9.1
                rw [ew6] at hs2
                have hc7 : (clT w t && decide ((t : Int) ≠ 8)) = true := by rw [← hcl]; simp_all
                have hs3 := hs2.eqf (L' := ancS1 w (ancL w) t) (g := is1S w (isaL w) t) (by unfold ancS1; rw [if_pos hc7]; rw [q5]) (fun b b0 b1 => by unfold is1S; rw [hc7, q2]; rfl)
                have rL3 := ancS1_rg hb (t := (t : Int)) (by omega) ht (rec := ancL w) (fun x h1 h2 => ancL_rg hb hB1 (by omega) (by omega))
                refine z_iconst C 141 dX7_layOut_140 rfl ?_
                refine z_istore_n (lv' := [(0, .ref (am)), (1, .int (iI ((t : Int)))), (2, .int (iI (bI (cl)))), (3, .int (iI (0)))]) C 142 [1, 2, 3, 0] dX7_layOut_141 (by decide) rfl rfl ?_
                refine z_as (lv' := [(0, .ref (am)), (1, .int (iI ((t : Int)))), (2, .int (iI (bI ((cl))))), (3, .int (iI (((0) : Int))))]) rfl rfl rfl ?_
                exact L142_16 _ (w6) (cl) (0) hw6 (hs3.eqf rfl (fun b b0 b1 => by unfold is2S anyN; simp)) rL3 hcl h8 (by omega) (Nat.lt_succ_self _)
        refine z_iconst C 11 dX7_layOut_10 rfl ?_
        refine z_istore_n (lv' := [(0, .ref (am)), (1, .int (iI ((t : Int)))), (2, .int (iI (0)))]) C 12 [1, 2, 0] dX7_layOut_11 (by decide) rfl rfl ?_
        have L12_23 : ∀ (fu : Nat) (b : Nat) (w' : mW) (hbk : (b : Int) ≤ w 0 0) (hw' : mWF w') (hi : stI w w' t b) (hme : (w 0 0).toNat - b < fu), Z κ (mP θ am ar w' N) 0 0 12 [(0, .ref (am)), (1, .int (iI ((t : Int)))), (2, .int (iI ((b : Int))))] [] := by
          intro fu
          induction fu with
          | zero => intro b w' hbk hw' hi hme; exact absurd hme (Nat.not_lt_zero _)
          | succ fu ih24 =>
            intro b w' hbk hw' hi hme
            have q0' : w' 0 0 = w 0 0 := hi.1.1 0 0 (by decide) (by decide) (by decide)
            refine z_iload_n C 13 2 dX7_layOut_12 rfl rfl ?_
            refine z_aload_n C 14 0 dX7_layOut_13 rfl rfl ?_
            refine m_geti C hκ 17 0 (by decide) rfl q1995 rfl dX7_layOut_14 rfl ?_
            refine z_icmp_ge C 59 20 dX7_layOut_17 (by decide) ⟨by omega, by omega⟩ ⟨by omega, by omega⟩ rfl (fun c25 => ?_) (fun c25 => ?_)
            · skip
              refine z_aload_n C 60 0 dX7_layOut_59 rfl rfl ?_
              refine m_geta C hκ 63 10 (by decide) rfl q2005 rfl dX7_layOut_60 rfl ?_
              refine z_iload_n C 64 1 dX7_layOut_63 rfl rfl ?_
              refine z_iconst C 65 dX7_layOut_64 rfl ?_
              obtain ⟨w7, ew7⟩ : ∃ w9, mset w' 10 ((t : Int)) (0) = w9 := ⟨_, rfl⟩
              have hw7 : mWF w7 := ew7 ▸ hw'.set ⟨by decide, by decide⟩ rfl
              refine m_iast (len := 60) (w' := w7) C hκ hD 66 10 (by decide) rfl rfl (by omega) (by omega) dX7_layOut_65 rfl ew7 ?_
              have hbt : (b : Int) = w 0 0 := by omega
              have hs := stI.fin (hbt ▸ hi)
              rw [ew7] at hs
              have q1 : w7 0 0 = w 0 0 := hs.1.1 0 0 (by decide) (by decide) (by decide)
              refine z_iload_n C 67 1 dX7_layOut_66 rfl rfl ?_
              refine z_bipush C 69 dX7_layOut_67 (by decide) rfl ?_
              refine z_icmp_ge C 75 72 dX7_layOut_69 (by decide) ⟨by omega, by omega⟩ ⟨by decide, by decide⟩ rfl (fun c26 => ?_) (fun c26 => ?_)
              · skip
                have hr0 : rgL (w 0 0) [] := ⟨by simp, fun x hx => by simp at hx⟩
                have hl0 := hs.len (a := (t : Int)) ⟨hB1, hB2⟩ hr0 ⟨by omega, ht⟩
                refine z_aload_n C 76 0 dX7_layOut_75 rfl rfl ?_
                refine z_iload_n C 77 1 dX7_layOut_76 rfl rfl ?_
                refine z_iload_n C 78 1 dX7_layOut_77 rfl rfl ?_
                refine z_callVF0 (n' := 0) (k' := 0) (As := [.int (iI ((t : Int))), .int (iI ((t : Int)))]) (rest := []) C hκ hκl 81 (k7_list hD hw7 ((t : Int)) ((t : Int)) ⟨by omega, by omega⟩ ⟨by omega, by omega⟩ (by omega) hl0.1 hl0.2) dX7_layOut_78 q1979 q1981 qs35 q97 q1982 znX7_list (Nat.le_of_ble_eq_true rfl) (Nat.le_of_ble_eq_true rfl) (Nat.le_of_ble_eq_true rfl) (Nat.le_of_ble_eq_true rfl) mrec rfl rfl (Nat.le_of_ble_eq_true rfl) rfl rfl rfl ?_
                obtain ⟨w8, ew8⟩ : ∃ w9, listW w7 ((t : Int)) ((t : Int)) = w9 := ⟨_, rfl⟩
                rw [ew8]
                have hw8 : mWF w8 := ew8 ▸ (listW_wf hw7 (by first | assumption | exact ⟨by omega, by omega⟩) ⟨by omega, by omega⟩)
                have hsa := stL.list hb ⟨hB1, hB2⟩ ⟨by omega, ht⟩ hs hr0 ⟨by omega, ht⟩
                rw [ew8] at hsa
                have hsb : stL w w8 t [(t : Int)] (basB t) := hsa
                have rLb : rgL (w 0 0) [(t : Int)] := ⟨by simp, fun x hx => by simp at hx; subst hx; exact ⟨by omega, ht⟩⟩
                have q3 : w8 1 t = w 1 t := hsb.1.1 1 t (by decide) (by decide) (by decide)
                have h8 : 8 ≤ (t : Int) := by omega
                refine z_aload_n C 82 0 dX7_layOut_81 rfl rfl ?_
                refine m_geta C hκ 85 1 (by decide) rfl q1996 rfl dX7_layOut_82 rfl ?_
                refine z_iload_n C 86 1 dX7_layOut_85 rfl rfl ?_
                refine m_iald (len := 60) C hκ hD 87 1 (by decide) rfl rfl (by omega) (by omega) dX7_layOut_86 rfl ?_
                refine z_iconst C 88 dX7_layOut_87 rfl ?_
                refine z_icmp_eq C 101 91 dX7_layOut_88 (by decide) (hw8.r _ _ rfl) ⟨by decide, by decide⟩ rfl (fun c27 => ?_) (fun c27 => ?_)
                · skip
                  refine z_iconst C 102 dX7_layOut_101 rfl ?_
                  refine z_goto C 106 dX7_layOut_102 (by decide) ?_
                  refine z_istore_n (lv' := [(0, .ref (am)), (1, .int (iI ((t : Int)))), (2, .int (iI (1)))]) C 107 [1, 2, 0] dX7_layOut_106 (by decide) rfl rfl ?_
                  refine z_as (lv' := [(0, .ref (am)), (1, .int (iI ((t : Int)))), (2, .int (iI (bI ((true)))))]) rfl rfl rfl ?_
                  exact L107_19 _ (w8) (true) hw8 hsb rLb (by clear C hκ hκl ih2 hme hu hs0 L283_4 L212_6 L189_12 L142_16 L107_19 ih24 hw' hi hs hsa hsb rLb hr0 hl0; unfold clT; simp_all) h8 (Nat.lt_succ_self _)
                · skip
                  refine z_aload_n C 92 0 dX7_layOut_91 rfl rfl ?_
                  refine m_geta C hκ 95 1 (by decide) rfl q1996 rfl dX7_layOut_92 rfl ?_
                  refine z_iload_n C 96 1 dX7_layOut_95 rfl rfl ?_
                  refine m_iald (len := 60) C hκ hD 97 1 (by decide) rfl rfl (by omega) (by omega) dX7_layOut_96 rfl ?_
                  refine z_iconst C 98 dX7_layOut_97 rfl ?_
                  refine z_icmp_ne C 105 101 dX7_layOut_98 (by decide) (hw8.r _ _ rfl) ⟨by decide, by decide⟩ rfl (fun c28 => ?_) (fun c28 => ?_)
                  · skip
                    refine z_iconst C 106 dX7_layOut_105 rfl ?_
                    refine z_istore_n (lv' := [(0, .ref (am)), (1, .int (iI ((t : Int)))), (2, .int (iI (0)))]) C 107 [1, 2, 0] dX7_layOut_106 (by decide) rfl rfl ?_
                    refine z_as (lv' := [(0, .ref (am)), (1, .int (iI ((t : Int)))), (2, .int (iI (bI ((false)))))]) rfl rfl rfl ?_
                    exact L107_19 _ (w8) (false) hw8 hsb rLb (by clear C hκ hκl ih2 hme hu hs0 L283_4 L212_6 L189_12 L142_16 L107_19 ih24 hw' hi hs hsa hsb rLb hr0 hl0; unfold clT; simp_all) h8 (Nat.lt_succ_self _)
                  · skip
                    refine z_iconst C 102 dX7_layOut_101 rfl ?_
                    refine z_goto C 106 dX7_layOut_102 (by decide) ?_
                    refine z_istore_n (lv' := [(0, .ref (am)), (1, .int (iI ((t : Int)))), (2, .int (iI (1)))]) C 107 [1, 2, 0] dX7_layOut_106 (by decide) rfl rfl ?_
                    refine z_as (lv' := [(0, .ref (am)), (1, .int (iI ((t : Int)))), (2, .int (iI (bI ((true)))))]) rfl rfl rfl ?_
                    exact L107_19 _ (w8) (true) hw8 hsb rLb (by clear C hκ hκl ih2 hme hu hs0 L283_4 L212_6 L189_12 L142_16 L107_19 ih24 hw' hi hs hsa hsb rLb hr0 hl0; unfold clT; simp_all) h8 (Nat.lt_succ_self _)
              · skip
                have hfin := stL.fin (hs.eqf (show [] = ancL w t by rw [ancL_eq hb (by omega) ht]; unfold ancS; rw [if_pos (by omega)]) (fun b b0 b1 => show basB t b = isaL w t b by rw [isaL_eq hb (by omega) ht]; unfold isaS; rw [if_pos (by omega)]))
                refine z_goto C 290 dX7_layOut_72 (by decide) ?_
                refine z_iinc (lv' := [(0, .ref (am)), (1, .int (iI (((t : Int)) + 1))), (2, .int (iI ((b : Int))))]) C 293 1 [1, 0, 2] dX7_layOut_290 rfl (by decide) rfl rfl ?_
                refine z_goto C 2 dX7_layOut_293 (by decide) ?_
                refine z_sub [0, 1] (lv' := [(0, .ref (am)), (1, .int (iI (((t : Int)) + 1)))]) rfl ?_
                refine z_as (lv' := [(0, .ref (am)), (1, .int (iI (((t + 1) : Int))))]) rfl rfl rfl ?_
                exact ih2 (t + 1) (w7) (by omega) hw7 hfin (by omega)
            · skip
              refine z_aload_n C 21 0 dX7_layOut_20 rfl rfl ?_
              refine m_geta C hκ 24 8 (by decide) rfl q2003 rfl dX7_layOut_21 rfl ?_
              refine z_bipush C 26 dX7_layOut_24 (by decide) rfl ?_
              refine z_iload_n C 27 1 dX7_layOut_26 rfl rfl ?_
              refine z_imul C 28 dX7_layOut_27 rfl ?_
              refine z_iload_n C 29 2 dX7_layOut_28 rfl rfl ?_
              refine z_iadd C 30 dX7_layOut_29 rfl ?_
              refine z_iload_n C 31 1 dX7_layOut_30 rfl rfl ?_
              refine z_iload_n C 32 2 dX7_layOut_31 rfl rfl ?_
              refine z_icmp_eq C 47 35 dX7_layOut_32 (by decide) ⟨by omega, by omega⟩ ⟨by omega, by omega⟩ rfl (fun c29 => ?_) (fun c29 => ?_)
              · skip
                refine z_iconst C 48 dX7_layOut_47 rfl ?_
                refine z_goto C 52 dX7_layOut_48 (by decide) ?_
                obtain ⟨w9, ew9⟩ : ∃ w9, mset w' 8 (((60) * ((t : Int))) + ((b : Int))) (1) = w9 := ⟨_, rfl⟩
                have hw9 : mWF w9 := ew9 ▸ hw'.setB (Or.inr rfl)
                refine m_bast (len := 3600) (w' := w9) C hκ hD 53 8 (by decide) rfl rfl (by omega) (by omega) (Or.inr rfl) dX7_layOut_52 rfl ew9 ?_
                refine z_iinc (lv' := [(0, .ref (am)), (1, .int (iI ((t : Int)))), (2, .int (iI (((b : Int)) + 1)))]) C 56 2 [1, 2, 0] dX7_layOut_53 rfl (by decide) rfl rfl ?_
                refine z_goto C 12 dX7_layOut_56 (by decide) ?_
                refine z_as (lv' := [(0, .ref (am)), (1, .int (iI ((t : Int)))), (2, .int (iI (((b + 1) : Int))))]) rfl rfl rfl ?_
                exact ih24 (b + 1) (w9) (by omega) hw9 (ew9 ▸ stI.set (c := true) hB2 (by omega) hi (by clear C hκ hκl ih2 hme hu hs0 L283_4 L212_6 L189_12 L142_16 L107_19 ih24 hw' hi; unfold basB; first | (simp_all; done) | (simp_all <;> omega))) (by omega)
              · skip
                refine z_iload_n C 36 1 dX7_layOut_35 rfl rfl ?_
                refine z_bipush C 38 dX7_layOut_36 (by decide) rfl ?_
                refine z_icmp_lt C 51 41 dX7_layOut_38 (by decide) ⟨by omega, by omega⟩ ⟨by decide, by decide⟩ rfl (fun c30 => ?_) (fun c30 => ?_)
                · skip
                  refine z_iconst C 52 dX7_layOut_51 rfl ?_
                  obtain ⟨w10, ew10⟩ : ∃ w9, mset w' 8 (((60) * ((t : Int))) + ((b : Int))) (0) = w9 := ⟨_, rfl⟩
                  have hw10 : mWF w10 := ew10 ▸ hw'.setB (Or.inl rfl)
                  refine m_bast (len := 3600) (w' := w10) C hκ hD 53 8 (by decide) rfl rfl (by omega) (by omega) (Or.inl rfl) dX7_layOut_52 rfl ew10 ?_
                  refine z_iinc (lv' := [(0, .ref (am)), (1, .int (iI ((t : Int)))), (2, .int (iI (((b : Int)) + 1)))]) C 56 2 [1, 2, 0] dX7_layOut_53 rfl (by decide) rfl rfl ?_
                  refine z_goto C 12 dX7_layOut_56 (by decide) ?_
                  refine z_as (lv' := [(0, .ref (am)), (1, .int (iI ((t : Int)))), (2, .int (iI (((b + 1) : Int))))]) rfl rfl rfl ?_
                  exact ih24 (b + 1) (w10) (by omega) hw10 (ew10 ▸ stI.set (c := false) hB2 (by omega) hi (by clear C hκ hκl ih2 hme hu hs0 L283_4 L212_6 L189_12 L142_16 L107_19 ih24 hw' hi; unfold basB; first | (simp_all; done) | (simp_all <;> omega))) (by omega)
                · skip
                  refine z_iload_n C 42 2 dX7_layOut_41 rfl rfl ?_
                  refine z_bipush C 44 dX7_layOut_42 (by decide) rfl ?_
                  refine z_icmp_ne C 51 47 dX7_layOut_44 (by decide) ⟨by omega, by omega⟩ ⟨by decide, by decide⟩ rfl (fun c31 => ?_) (fun c31 => ?_)
                  · skip
                    refine z_iconst C 52 dX7_layOut_51 rfl ?_
                    obtain ⟨w11, ew11⟩ : ∃ w9, mset w' 8 (((60) * ((t : Int))) + ((b : Int))) (0) = w9 := ⟨_, rfl⟩
                    have hw11 : mWF w11 := ew11 ▸ hw'.setB (Or.inl rfl)
                    refine m_bast (len := 3600) (w' := w11) C hκ hD 53 8 (by decide) rfl rfl (by omega) (by omega) (Or.inl rfl) dX7_layOut_52 rfl ew11 ?_
                    refine z_iinc (lv' := [(0, .ref (am)), (1, .int (iI ((t : Int)))), (2, .int (iI (((b : Int)) + 1)))]) C 56 2 [1, 2, 0] dX7_layOut_53 rfl (by decide) rfl rfl ?_
                    refine z_goto C 12 dX7_layOut_56 (by decide) ?_
                    refine z_as (lv' := [(0, .ref (am)), (1, .int (iI ((t : Int)))), (2, .int (iI (((b + 1) : Int))))]) rfl rfl rfl ?_
                    exact ih24 (b + 1) (w11) (by omega) hw11 (ew11 ▸ stI.set (c := false) hB2 (by omega) hi (by clear C hκ hκl ih2 hme hu hs0 L283_4 L212_6 L189_12 L142_16 L107_19 ih24 hw' hi; unfold basB; first | (simp_all; done) | (simp_all <;> omega))) (by omega)
                  · skip
                    refine z_iconst C 48 dX7_layOut_47 rfl ?_
                    refine z_goto C 52 dX7_layOut_48 (by decide) ?_
                    obtain ⟨w12, ew12⟩ : ∃ w9, mset w' 8 (((60) * ((t : Int))) + ((b : Int))) (1) = w9 := ⟨_, rfl⟩
                    have hw12 : mWF w12 := ew12 ▸ hw'.setB (Or.inr rfl)
                    refine m_bast (len := 3600) (w' := w12) C hκ hD 53 8 (by decide) rfl rfl (by omega) (by omega) (Or.inr rfl) dX7_layOut_52 rfl ew12 ?_
                    refine z_iinc (lv' := [(0, .ref (am)), (1, .int (iI ((t : Int)))), (2, .int (iI (((b : Int)) + 1)))]) C 56 2 [1, 2, 0] dX7_layOut_53 rfl (by decide) rfl rfl ?_
                    refine z_goto C 12 dX7_layOut_56 (by decide) ?_
                    refine z_as (lv' := [(0, .ref (am)), (1, .int (iI ((t : Int)))), (2, .int (iI (((b + 1) : Int))))]) rfl rfl rfl ?_
                    exact ih24 (b + 1) (w12) (by omega) hw12 (ew12 ▸ stI.set (c := true) hB2 (by omega) hi (by clear C hκ hκl ih2 hme hu hs0 L283_4 L212_6 L189_12 L142_16 L107_19 ih24 hw' hi; unfold basB; first | (simp_all; done) | (simp_all <;> omega))) (by omega)
        refine z_as (lv' := [(0, .ref (am)), (1, .int (iI ((t : Int)))), (2, .int (iI (((0) : Int))))]) rfl rfl rfl ?_
        exact L12_23 _ (0) (u) (by omega) hu ⟨hs0, fun b h0 h1 => by omega⟩ (Nat.lt_succ_self _)
  refine z_as (lv' := [(0, .ref (am)), (1, .int (iI (((0) : Int))))]) rfl rfl rfl ?_
  exact L2_1 _ (0) (w) (by omega) hw ⟨fun _ _ _ _ _ => rfl, fun x h0 h1 => by omega⟩ (Nat.lt_succ_self _)
