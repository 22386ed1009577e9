/-! ===== what the Model's small methods answer ===== -/
theorem bI_01 (b : Bool) : bI b = 0 ∨ bI b = 1 := by cases b <;> simp [bI]
def mB (w : mW) : Prop := 9 ≤ w 0 0 ∧ w 0 0 ≤ 60 ∧ 0 ≤ w 11 0 ∧ w 11 0 ≤ 100 ∧ 0 ≤ w 27 0 ∧ w 27 0 ≤ 80
def tyB (w : mW) (t : Int) : Bool := decide (0 ≤ t ∧ t < w 0 0)
def rfB (w : mW) (t : Int) : Bool := decide (8 ≤ t ∧ t < w 0 0)
def clB (w : mW) (t : Int) : Bool := decide (0 ≤ t ∧ t < w 0 0 ∧ (w 1 t = 1 ∨ w 1 t = 2))
def dcB (w : mW) (t : Int) : Bool := decide (0 ≤ t ∧ t < w 0 0 ∧ t ≠ 8 ∧ (w 1 t = 1 ∨ w 1 t = 2 ∨ w 1 t = 3))
def mbB (w : mW) (m : Int) : Bool := decide (0 ≤ m ∧ m < w 11 0)
def mtB (w : mW) (m : Int) : Bool := decide (0 ≤ m ∧ m < w 11 0 ∧ w 16 m ≠ 1)
def fdB (w : mW) (m : Int) : Bool := decide (0 ≤ m ∧ m < w 11 0 ∧ w 16 m = 1)
def thB (w : mW) (x : Int) : Bool := decide (0 ≤ x ∧ x < w 27 0)
def tnB (w : mW) (x : Int) : Bool := decide (x = -1 ∨ (0 ≤ x ∧ x < w 27 0))
def slB (s : Int) : Bool := decide (0 ≤ s ∧ s < 8)
def hasB (w : mW) (m k : Int) : Bool := decide (zand (w 15 m) k ≠ 0)
def whoI (w : mW) (m : Int) : Int := zand (w 15 m) 3
def prB (w : mW) (m : Int) : Bool := decide (whoI w m = 2)
def wdB (a b : Int) : Bool := decide (a = b ∨ (a = 1 ∧ 4 ≤ b) ∨ (2 ≤ a ∧ a ≤ 6 ∧ a < b))
abbrev isa (w : mW) (a b : Int) : Bool := mb w 8 (60 * a + b)
def giB (w : mW) (a b : Int) : Bool := if a < 8 then decide (b < 8) && wdB a b else decide (8 ≤ b) && isa w a b
def noneI (t : Int) : Int := if 8 ≤ t then -1 else 0
theorem zand_n (a : Int) (h : inR a) (k : Nat) : True := trivial
def anyN (p : Nat → Bool) : Nat → Bool
  | 0 => false
  | n + 1 => anyN p n || p n
def allN (p : Nat → Bool) : Nat → Bool
  | 0 => true
  | n + 1 => allN p n && p n
/-- the last place below n that p takes; -1 -/
def lastN (p : Nat → Bool) : Nat → Int
  | 0 => -1
  | n + 1 => if p n then (n : Int) else lastN p n
theorem anyN_t {p : Nat → Bool} {n : Nat} : anyN p n = true ↔ ∃ k, k < n ∧ p k = true := by
  induction n with
  | zero => simp [anyN]
  | succ n ih =>
    simp only [anyN, Bool.or_eq_true, ih]
    constructor
    · rintro (⟨k, h1, h2⟩ | h)
      · exact ⟨k, by omega, h2⟩
      · exact ⟨n, by omega, h⟩
    · rintro ⟨k, h1, h2⟩
      by_cases hk : k = n
      · subst hk; exact Or.inr h2
      · exact Or.inl ⟨k, by omega, h2⟩
theorem allN_t {p : Nat → Bool} {n : Nat} : allN p n = true ↔ ∀ k, k < n → p k = true := by
  induction n with
  | zero => simp [allN]
  | succ n ih =>
    simp only [allN, Bool.and_eq_true, ih]
    constructor
    · rintro ⟨h1, h2⟩ k hk
      by_cases hkn : k = n
      · subst hkn; exact h2
      · exact h1 k (by omega)
    · intro h
      exact ⟨fun k hk => h k (by omega), h n (by omega)⟩
theorem lastN_r {p : Nat → Bool} {n : Nat} : -1 ≤ lastN p n ∧ lastN p n < n := by
  induction n with
  | zero => simp [lastN]
  | succ n ih =>
    simp only [lastN]
    split <;> omega
theorem lastN_p {p : Nat → Bool} {n : Nat} (h : lastN p n ≠ -1) : ∃ k : Nat, lastN p n = (k : Int) ∧ k < n ∧ p k = true := by
  induction n with
  | zero => simp [lastN] at h
  | succ n ih =>
    simp only [lastN] at h ⊢
    by_cases hp : p n = true
    · rw [if_pos hp]; exact ⟨n, rfl, by omega, hp⟩
    · rw [if_neg hp] at h ⊢
      obtain ⟨k, h1, h2, h3⟩ := ih h
      exact ⟨k, h1, by omega, h3⟩
theorem lastN_n {p : Nat → Bool} {n : Nat} : lastN p n = -1 ↔ ∀ k, k < n → p k = false := by
  induction n with
  | zero => simp [lastN]
  | succ n ih =>
    simp only [lastN]
    by_cases hp : p n = true
    · rw [if_pos hp]
      constructor
      · intro h; omega
      · intro h; rw [h n (by omega)] at hp; cases hp
    · rw [if_neg hp, ih]
      constructor
      · intro h k hk
        by_cases hkn : k = n
        · subst hkn; simpa using hp
        · exact h k (by omega)
      · intro h k hk; exact h k (by omega)
/-- where just one place is taken, the last is that one -/
theorem lastN_u {p : Nat → Bool} {n k : Nat} (hk : k < n) (hp : p k = true) (hu : ∀ j, j < n → p j = true → j = k) : lastN p n = k := by
  have h : lastN p n ≠ -1 := fun z => by rw [lastN_n.mp z k hk] at hp; cases hp
  obtain ⟨j, h1, h2, h3⟩ := lastN_p h
  rw [h1, hu j h2 h3]
def ofI (w : mW) (t n : Int) : Int := lastN (fun m => mb w 16 m && (decide (w 13 m = t) && decide (w 14 m = n))) (w 11 0).toNat
def likeB (w : mW) (m n : Int) : Bool := decide (w 14 m = w 14 n ∧ w 17 m = w 17 n ∧ w 18 m = w 18 n) && allN (fun k => decide (w 19 (3 * m + k) = w 19 (3 * n + k))) (w 18 m).toNat
def olI (w : mW) (t m : Int) : Int := lastN (fun k => !mb w 16 k && (decide (w 13 k = t) && likeB w k m)) (w 11 0).toNat
def ovB (w : mW) (m n : Int) : Bool := likeB w m n && !hasB w m 4 && !hasB w n 4 && !prB w m && !prB w n && decide (w 13 m ≠ w 13 n) && isa w (w 13 m) (w 13 n) && (decide (whoI w n = 1) || decide (whoI w n = 3) || decide (w 3 (w 13 m) = w 3 (w 13 n)))
def ccB (w : mW) (t : Int) : Bool := anyN (fun k => decide (w 29 k = -1) && isa w (w 28 k) t) (w 27 0).toNat
def lsB (w : mW) (t a : Int) : Bool := anyN (fun k => decide (w 9 (60 * t + k) = a)) (w 10 t).toNat
def listW (w : mW) (t a : Int) : mW := if lsB w t a then w else mset (mset w 9 (60 * t + w 10 t) a) 10 t (w 10 t + 1)
def laW (w : mW) (t f : Int) (r : Bool) : Nat → mW
  | 0 => w
  | n + 1 => if r || decide (laW w t f r n 9 (60 * f + n) ≠ 8) then listW (laW w t f r n) t (laW w t f r n 9 (60 * f + n)) else laW w t f r n
def tkW (w : mW) (t f : Int) : Nat → mW
  | 0 => w
  | n + 1 => mset (tkW w t f n) 8 (60 * t + n) (bI (isa (tkW w t f n) t n || isa (tkW w t f n) f n))
def sgB (w : mW) (s t : Int) : Bool := if w 32 s < 8 then decide (t < 8) && wdB (w 32 s) t else decide (8 ≤ t) && (decide (w 33 s < 0) || isa w (w 28 (w 33 s)) t)
def mtlB (t as_ : Int) : Bool := if t < 8 then decide (as_ < 8) && wdB t as_ else decide (as_ = 8)
def agI (w : mW) (m x : Int) : Int := if hasB w m 4 then 0 else if x = -1 then 1 else if !isa w (w 28 x) (w 13 m) then 2 else 0
def fvL (w : mW) (f x : Int) : Int := if hasB w f 4 then w 26 f else w 30 (100 * x + f)
def sfW (w : mW) (f x b : Int) : mW := if hasB w f 4 then mset w 26 f b else mset w 30 (100 * x + f) b
def aiI (w : mW) (x i : Int) (p : Bool) : Int := if x = -1 then 1 else if w 29 x = -1 ∨ decide (w 4 (w 28 x) < 8) ≠ p then 2 else if 0 ≤ i ∧ i < w 29 x then 0 else 3
def ftB (w : mW) (as_ b : Int) : Bool :=
  if as_ = 0 then decide (0 ≤ b ∧ b ≤ 1) else if as_ = 1 then decide (0 ≤ b ∧ b ≤ 65535) else if as_ = 2 then decide (-128 ≤ b ∧ b ≤ 127) else if as_ = 3 then decide (-32768 ≤ b ∧ b ≤ 32767)
  else if as_ = 4 then decide (-2147483648 ≤ b ∧ b ≤ 2147483647) else if as_ = 5 then true else if as_ = 6 then decide (-2147483648 ≤ b ∧ b ≤ 2147483647) && decide (zlandd b 2147483647 ≤ 2139095040)
  else if as_ = 7 then decide (zlandd b 9223372036854775807 ≤ 9218868437227405312) else decide (-1 ≤ b ∧ b ≤ w 27 0 - 1)
def layW (w : mW) (s as_ b : Int) : mW := mset (mset w 32 s as_) 33 s b
def mcB (w : mW) (m x : Int) : Bool := mb w 20 m || decide (whoI w m = 1) || decide (w 34 0 = w 13 m) || (decide (whoI w m ≠ 2) && decide (w 3 (w 34 0) = w 3 (w 13 m))) || (decide (whoI w m = 3) && isa w (w 34 0) (w 13 m) && (hasB w m 4 || (decide (x ≠ -1) && decide (w 29 x = -1) && isa w (w 28 x) (w 34 0))))
theorem allN_mono {p : Nat → Bool} {k n : Nat} (h : k ≤ n) (hp : allN p n = true) : allN p k = true := allN_t.mpr fun j hj => allN_t.mp hp j (by omega)
theorem likeB_at {w : mW} {m n : Int} {k : Nat} {b : Bool} (hk : (k : Int) ≤ w 18 m) (hb : b = (decide (w 14 m = w 14 n ∧ w 17 m = w 17 n ∧ w 18 m = w 18 n) && allN (fun j => decide (w 19 (3 * m + j) = w 19 (3 * n + j))) k)) (h : b = false ∨ w 18 m ≤ k) : b = likeB w m n := by
  unfold likeB
  rcases h with h | h
  · rw [h]
    symm
    apply Bool.eq_false_iff.mpr
    intro z
    rw [Bool.and_eq_true] at z
    have := allN_mono (k := k) (by omega) z.2
    rw [z.1, this] at hb
    rw [hb] at h; cases h
  · have e : k = (w 18 m).toNat := by omega
    subst e; exact hb
/-- what the Model's numbers keep: of a type, of a member, of a thing, of a slot -/
def mT (w : mW) (t : Int) : Prop := (-1 ≤ w 2 t ∧ w 2 t < t) ∧ (0 ≤ w 6 t ∧ w 6 t ≤ 3) ∧ (∀ k : Int, 0 ≤ k → k < w 6 t → 8 ≤ w 7 (3 * t + k) ∧ w 7 (3 * t + k) < t) ∧ (-1 ≤ w 4 t ∧ w 4 t < t ∧ (w 1 t = 4 → 0 ≤ w 4 t)) ∧ (0 ≤ w 10 t ∧ w 10 t ≤ 60) ∧ (∀ k : Int, 0 ≤ k → k < w 10 t → 8 ≤ w 9 (60 * t + k) ∧ w 9 (60 * t + k) < w 0 0) ∧ (0 ≤ w 1 t ∧ w 1 t ≤ 4) ∧ (-1 ≤ w 5 t ∧ w 5 t < w 0 0)
def mM (w : mW) (m : Int) : Prop := (8 ≤ w 13 m ∧ w 13 m < w 0 0) ∧ (0 ≤ w 18 m ∧ w 18 m ≤ 3) ∧ (-1 ≤ w 17 m ∧ w 17 m < w 0 0) ∧ (∀ k : Int, 0 ≤ k → k < w 18 m → 0 ≤ w 19 (3 * m + k) ∧ w 19 (3 * m + k) < w 0 0)
def mX (w : mW) (x : Int) : Prop := (8 ≤ w 28 x ∧ w 28 x < w 0 0) ∧ (-1 ≤ w 29 x ∧ w 29 x ≤ 20) ∧ (w 29 x ≠ -1 → w 1 (w 28 x) = 4 ∧ 0 ≤ w 4 (w 28 x))
def mL (w : mW) (s : Int) : Prop := (0 ≤ w 32 s ∧ w 32 s ≤ 8) ∧ (w 32 s = 8 → -1 ≤ w 33 s ∧ w 33 s < w 27 0)
def mS (w : mW) : Prop := mB w ∧ (∀ t, 0 ≤ t → t < w 0 0 → mT w t) ∧ (∀ m, 0 ≤ m → m < w 11 0 → mM w m) ∧ (∀ x, 0 ≤ x → x < w 27 0 → mX w x) ∧ (∀ s, 0 ≤ s → s < 8 → mL w s) ∧ (8 ≤ w 34 0 ∧ w 34 0 < w 0 0)
theorem mS.B {w : mW} (h : mS w) : mB w := h.1
theorem mS.T {w : mW} (h : mS w) {t : Int} (h1 : 0 ≤ t) (h2 : t < w 0 0) : mT w t := h.2.1 t h1 h2
theorem mS.M {w : mW} (h : mS w) {m : Int} (h1 : 0 ≤ m) (h2 : m < w 11 0) : mM w m := h.2.2.1 m h1 h2
theorem mS.X {w : mW} (h : mS w) {x : Int} (h1 : 0 ≤ x) (h2 : x < w 27 0) : mX w x := h.2.2.2.1 x h1 h2
theorem mS.L {w : mW} (h : mS w) {s : Int} (h1 : 0 ≤ s) (h2 : s < 8) : mL w s := h.2.2.2.2.1 s h1 h2
theorem mS.C {w : mW} (h : mS w) : 8 ≤ w 34 0 ∧ w 34 0 < w 0 0 := h.2.2.2.2.2
theorem ofI_r {w : mW} {t n : Int} (h : 0 ≤ w 11 0) : -1 ≤ ofI w t n ∧ ofI w t n < w 11 0 := by
  have := lastN_r (p := fun m => mb w 16 m && (decide (w 13 m = t) && decide (w 14 m = n))) (n := (w 11 0).toNat)
  unfold ofI
  omega
theorem olI_r {w : mW} {t m : Int} (h : 0 ≤ w 11 0) : -1 ≤ olI w t m ∧ olI w t m < w 11 0 := by
  have := lastN_r (p := fun k => !mb w 16 k && (decide (w 13 k = t) && likeB w k m)) (n := (w 11 0).toNat)
  unfold olI
  omega
def abI (w : mW) (t k : Int) : Int := if !tyB w t || !decide (0 ≤ k ∧ k ≤ 9) then -1 else if k = 0 then w 1 t else if k = 1 then w 2 t else if k = 2 then w 4 t else if k = 3 then w 3 t else if k = 4 then w 6 t else if k = 5 then w 10 t else if k = 6 then bI (ccB w t) else if k - 7 < w 6 t then w 7 (3 * t + k - 7) else -1
def acI (w : mW) (t i : Int) : Int := if tyB w t && decide (0 ≤ i ∧ i < w 10 t) then w 9 (60 * t + i) else -1
def isI (w : mW) (a b : Int) : Int := if !tyB w a || !tyB w b then -1 else bI (giB w a b)
def mbI (w : mW) (m k : Int) : Int := if !mbB w m || !decide (0 ≤ k ∧ k ≤ 10) then -3 else if k = 0 then w 13 m else if k = 1 then w 14 m else if k = 2 then w 15 m else if k = 3 then bI (mb w 16 m) else if k = 4 then w 17 m else if k = 5 then (if mb w 16 m then -1 else w 18 m) else if k = 9 then bI (mb w 20 m) else if k = 10 then (if mb w 16 m || hasB w m 16 then -1 else w 22 m) else if k - 6 < w 18 m then w 19 (3 * m + k - 6) else -1
def orI (w : mW) (m n : Int) : Int := if !mbB w m || !mbB w n || decide (mb w 16 m ≠ mb w 16 n) then -1 else if mb w 16 m then bI (decide (w 14 m = w 14 n) && decide (w 13 m ≠ w 13 n) && isa w (w 13 m) (w 13 n)) else bI (ovB w m n)
def myI (w : mW) (m x : Int) : Int := if !mbB w m || !tnB w x then -1 else bI (mcB w m x)
def thI (w : mW) (x k : Int) : Int := if !tnB w x || !decide (0 ≤ k ∧ k ≤ 1) then -2 else if x = -1 then 0 else if k = 0 then w 28 x else w 29 x
def kdI (w : mW) (s : Int) : Int := if slB s then w 32 s else -1
def btL (w : mW) (s : Int) : Int := if slB s then w 33 s else -9223372036854775808
def czI (w : mW) (k : Int) : Int := if k = 0 then w 37 0 else if k = 1 then w 38 0 else if k = 2 then w 39 0 else -1
def cnI (w : mW) (k : Int) : Int := if k = 0 then w 0 0 else if k = 1 then w 11 0 else if k = 2 then w 27 0 else if k = 3 then w 35 0 else if k = 4 then w 36 0 else if k = 5 then w 12 0 else -1
set_option maxRecDepth 100000 in
theorem k7_in {l : Launch} {θ : zTh} {Pic : Heap → Prop} (v : Int) (lo : Int) (hi : Int) (r_v : inL v) (r_lo : inL lo) (r_hi : inL hi)  : ZF θ l yX7_in cX7_in 6 (some .boolean) ⟨0, 0, 0, 0⟩ [.long (lI (v)), .long (lI (lo)), .long (lI (hi))] (Pic) (some (.int (iI (bI (decide (lo ≤ v ∧ v ≤ hi)))))) (Pic) := by
  refine z_start (own := RX7) (nm := "in") pnX7 rfl rfl (Nat.le_of_ble_eq_true rfl) ?_
  intro κ hκ hκl C
  change Z κ (Pic) 0 0 0 [(0, .long (lI (v))), (2, .long (lI (lo))), (4, .long (lI (hi)))] []
  refine z_lload_n C 1 0 dX7_in_0 rfl rfl ?_
  refine z_lload_n C 2 1 dX7_in_1 rfl rfl ?_
  refine z_lcmp C 3 dX7_in_2 r_v r_lo rfl ?_
  refine z_ifC_lt C 17 6 dX7_in_3 (by decide) rfl (fun c1 => ?_) (fun c1 => ?_)
  · skip
    refine z_iconst C 18 dX7_in_17 rfl ?_
    refine z_as (st' := [.int (iI (bI (false)))]) rfl rfl rfl ?_
    exact z_iret C dX7_in_18 (bI_nar _) (Nat.le_of_ble_eq_true rfl) (Nat.le_of_ble_eq_true rfl) ⟨congrArg (fun b => some (Value.int (iI (bI b)))) (by rw [eq_comm]; simp; omega), rfl⟩
  · skip
    refine z_lload_n C 7 0 dX7_in_6 rfl rfl ?_
    refine z_lload C 9 2 dX7_in_7 rfl rfl ?_
    refine z_lcmp C 10 dX7_in_9 r_v r_hi rfl ?_
    refine z_ifC_gt C 17 13 dX7_in_10 (by decide) rfl (fun c2 => ?_) (fun c2 => ?_)
    · skip
      refine z_iconst C 18 dX7_in_17 rfl ?_
      refine z_as (st' := [.int (iI (bI (false)))]) rfl rfl rfl ?_
      exact z_iret C dX7_in_18 (bI_nar _) (Nat.le_of_ble_eq_true rfl) (Nat.le_of_ble_eq_true rfl) ⟨congrArg (fun b => some (Value.int (iI (bI b)))) (by rw [eq_comm]; simp; omega), rfl⟩
    · skip
      refine z_iconst C 14 dX7_in_13 rfl ?_
      refine z_goto C 18 dX7_in_14 (by decide) ?_
      refine z_as (st' := [.int (iI (bI (true)))]) rfl rfl rfl ?_
      exact z_iret C dX7_in_18 (bI_nar _) (Nat.le_of_ble_eq_true rfl) (Nat.le_of_ble_eq_true rfl) ⟨congrArg (fun b => some (Value.int (iI (bI b)))) (by rw [eq_comm]; simp; omega), rfl⟩
set_option maxRecDepth 100000 in
theorem k7_isType {l : Launch} {θ : zTh} {N : zMap} {am : Nat} {ar : Nat → Nat} {w : mW} (hD : mDis am ar) (hw : mWF w) (t : Int) (r_t : inR t) (hB : mB w) : ZF θ l yX7_isType cX7_isType 2 (some .boolean) ⟨1, 0, 0, 25⟩ [.ref (am), .int (iI (t))] (mP θ am ar w N) (some (.int (iI (bI (tyB w t))))) (mP θ am ar w N) := by
  refine z_start (own := RX7) (nm := "isType") pnX7 rfl rfl (Nat.le_of_ble_eq_true rfl) ?_
  intro κ hκ hκl C
  change Z κ (mP θ am ar w N) 0 0 0 [(0, .ref (am)), (1, .int (iI (t)))] []
  have hB' := hB; obtain ⟨hB1, hB2, hB3, hB4, hB5, hB6⟩ := hB'
  refine z_iload_n C 1 1 dX7_isType_0 rfl rfl ?_
  refine z_i2l C 2 dX7_isType_1 r_t rfl ?_
  refine z_lconst (x := 0) C 3 dX7_isType_2 rfl rfl ?_
  refine z_aload_n C 4 0 dX7_isType_3 rfl rfl ?_
  refine m_geti C hκ 7 0 (by decide) rfl q1995 rfl dX7_isType_4 rfl ?_
  refine z_iconst C 8 dX7_isType_7 rfl ?_
  refine z_isub C 9 dX7_isType_8 rfl ?_
  refine z_i2l C 10 dX7_isType_9 ⟨by omega, by omega⟩ rfl ?_
  refine z_callSF (n' := 0) (k' := 0) (As := [.long (lI (t)), .long (lI (0)), .long (lI ((w 0 0) - (1)))]) (rest := []) C hκ hκl 13 (k7_in (t) (0) ((w 0 0) - (1)) (inR_L r_t) ⟨by decide, by decide⟩ (inR_L ⟨by omega, by omega⟩)) dX7_isType_10 q2164 q2165 q97 q2166 znX7_in (Nat.le_of_ble_eq_true rfl) (Nat.le_of_ble_eq_true rfl) (Nat.le_of_ble_eq_true rfl) (Nat.le_of_ble_eq_true rfl) rfl (Nat.le_of_ble_eq_true rfl) rfl rfl rfl ?_
  exact z_iret C dX7_isType_13 (bI_nar _) (Nat.le_of_ble_eq_true rfl) (Nat.le_of_ble_eq_true rfl) ⟨congrArg (fun b => some (Value.int (iI (bI b)))) (by unfold tyB; congr 1; apply propext; constructor <;> intro h <;> omega), rfl⟩
set_option maxRecDepth 100000 in
theorem k7_isReference {l : Launch} {θ : zTh} {N : zMap} {am : Nat} {ar : Nat → Nat} {w : mW} (hD : mDis am ar) (hw : mWF w) (t : Int) (r_t : inR t) (hB : mB w) : ZF θ l yX7_isReference cX7_isReference 2 (some .boolean) ⟨2, 0, 0, 46⟩ [.ref (am), .int (iI (t))] (mP θ am ar w N) (some (.int (iI (bI (rfB w t))))) (mP θ am ar w N) := by
  refine z_start (own := RX7) (nm := "isReference") pnX7 rfl rfl (Nat.le_of_ble_eq_true rfl) ?_
  intro κ hκ hκl C
  change Z κ (mP θ am ar w N) 0 0 0 [(0, .ref (am)), (1, .int (iI (t)))] []
  have hB' := hB; obtain ⟨hB1, hB2, hB3, hB4, hB5, hB6⟩ := hB'
  refine z_aload_n C 1 0 dX7_isReference_0 rfl rfl ?_
  refine z_iload_n C 2 1 dX7_isReference_1 rfl rfl ?_
  refine z_callVF (n' := 0) (k' := 0) (As := [.int (iI (t))]) (rest := []) C hκ hκl 5 (k7_isType hD hw (t) r_t hB) dX7_isReference_2 q2160 q2162 qs40 q97 q2163 znX7_isType (Nat.le_of_ble_eq_true rfl) (Nat.le_of_ble_eq_true rfl) (Nat.le_of_ble_eq_true rfl) (Nat.le_of_ble_eq_true rfl) mrec rfl rfl (Nat.le_of_ble_eq_true rfl) rfl rfl rfl ?_
  refine z_ifB_eq C 18 8 dX7_isReference_5 (by decide) rfl (fun c1 => ?_) (fun c1 => ?_)
  · skip
    have c1b : ¬ (0 ≤ (t) ∧ (t) < w 0 0) := of_decide_eq_false c1
    refine z_iconst C 19 dX7_isReference_18 rfl ?_
    refine z_as (st' := [.int (iI (bI (false)))]) rfl rfl rfl ?_
    exact z_iret C dX7_isReference_19 (bI_nar _) (Nat.le_of_ble_eq_true rfl) (Nat.le_of_ble_eq_true rfl) ⟨congrArg (fun b => some (Value.int (iI (bI b)))) (by clear C hκ hκl ; first | (simp_all [rfB, tyB]; done) | (simp_all [rfB, tyB] <;> omega) | (grind [rfB, tyB]) | (simp [rfB, tyB] at * <;> omega)), rfl⟩
  · skip
    have c1b : (0 ≤ (t) ∧ (t) < w 0 0) := of_decide_eq_true c1
    refine z_iload_n C 9 1 dX7_isReference_8 rfl rfl ?_
    refine z_bipush C 11 dX7_isReference_9 (by decide) rfl ?_
    refine z_icmp_lt C 18 14 dX7_isReference_11 (by decide) r_t ⟨by decide, by decide⟩ rfl (fun c2 => ?_) (fun c2 => ?_)
    · skip
      refine z_iconst C 19 dX7_isReference_18 rfl ?_
      refine z_as (st' := [.int (iI (bI (false)))]) rfl rfl rfl ?_
      exact z_iret C dX7_isReference_19 (bI_nar _) (Nat.le_of_ble_eq_true rfl) (Nat.le_of_ble_eq_true rfl) ⟨congrArg (fun b => some (Value.int (iI (bI b)))) (by clear C hκ hκl ; first | (simp_all [rfB, tyB]; done) | (simp_all [rfB, tyB] <;> omega) | (grind [rfB, tyB]) | (simp [rfB, tyB] at * <;> omega)), rfl⟩
    · skip
      refine z_iconst C 15 dX7_isReference_14 rfl ?_
      refine z_goto C 19 dX7_isReference_15 (by decide) ?_
      refine z_as (st' := [.int (iI (bI (true)))]) rfl rfl rfl ?_
      exact z_iret C dX7_isReference_19 (bI_nar _) (Nat.le_of_ble_eq_true rfl) (Nat.le_of_ble_eq_true rfl) ⟨congrArg (fun b => some (Value.int (iI (bI b)))) (by clear C hκ hκl ; first | (simp_all [rfB, tyB]; done) | (simp_all [rfB, tyB] <;> omega) | (grind [rfB, tyB]) | (simp [rfB, tyB] at * <;> omega)), rfl⟩
set_option maxRecDepth 100000 in
theorem k7_isClass {l : Launch} {θ : zTh} {N : zMap} {am : Nat} {ar : Nat → Nat} {w : mW} (hD : mDis am ar) (hw : mWF w) (t : Int) (r_t : inR t) (hB : mB w) : ZF θ l yX7_isClass cX7_isClass 2 (some .boolean) ⟨2, 0, 0, 46⟩ [.ref (am), .int (iI (t))] (mP θ am ar w N) (some (.int (iI (bI (clB w t))))) (mP θ am ar w N) := by
  refine z_start (own := RX7) (nm := "isClass") pnX7 rfl rfl (Nat.le_of_ble_eq_true rfl) ?_
  intro κ hκ hκl C
  change Z κ (mP θ am ar w N) 0 0 0 [(0, .ref (am)), (1, .int (iI (t)))] []
  have hB' := hB; obtain ⟨hB1, hB2, hB3, hB4, hB5, hB6⟩ := hB'
  refine z_aload_n C 1 0 dX7_isClass_0 rfl rfl ?_
  refine z_iload_n C 2 1 dX7_isClass_1 rfl rfl ?_
  refine z_callVF (n' := 0) (k' := 0) (As := [.int (iI (t))]) (rest := []) C hκ hκl 5 (k7_isType hD hw (t) r_t hB) dX7_isClass_2 q2160 q2162 qs40 q97 q2163 znX7_isType (Nat.le_of_ble_eq_true rfl) (Nat.le_of_ble_eq_true rfl) (Nat.le_of_ble_eq_true rfl) (Nat.le_of_ble_eq_true rfl) mrec rfl rfl (Nat.le_of_ble_eq_true rfl) rfl rfl rfl ?_
  refine z_ifB_eq C 32 8 dX7_isClass_5 (by decide) rfl (fun c1 => ?_) (fun c1 => ?_)
  · skip
    have c1b : ¬ (0 ≤ (t) ∧ (t) < w 0 0) := of_decide_eq_false c1
    refine z_iconst C 33 dX7_isClass_32 rfl ?_
    refine z_as (st' := [.int (iI (bI (false)))]) rfl rfl rfl ?_
    exact z_iret C dX7_isClass_33 (bI_nar _) (Nat.le_of_ble_eq_true rfl) (Nat.le_of_ble_eq_true rfl) ⟨congrArg (fun b => some (Value.int (iI (bI b)))) (by clear C hκ hκl ; first | (simp_all [clB, tyB]; done) | (simp_all [clB, tyB] <;> omega) | (grind [clB, tyB]) | (simp [clB, tyB] at * <;> omega)), rfl⟩
  · skip
    have c1b : (0 ≤ (t) ∧ (t) < w 0 0) := of_decide_eq_true c1
    refine z_aload_n C 9 0 dX7_isClass_8 rfl rfl ?_
    refine m_geta C hκ 12 1 (by decide) rfl q1996 rfl dX7_isClass_9 rfl ?_
    refine z_iload_n C 13 1 dX7_isClass_12 rfl rfl ?_
    refine m_iald (len := 60) C hκ hD 14 1 (by decide) rfl rfl (by omega) (by omega) dX7_isClass_13 rfl ?_
    refine z_iconst C 15 dX7_isClass_14 rfl ?_
    refine z_icmp_eq C 28 18 dX7_isClass_15 (by decide) (hw.r _ _ rfl) ⟨by decide, by decide⟩ rfl (fun c2 => ?_) (fun c2 => ?_)
    · skip
      refine z_iconst C 29 dX7_isClass_28 rfl ?_
      refine z_goto C 33 dX7_isClass_29 (by decide) ?_
      refine z_as (st' := [.int (iI (bI (true)))]) rfl rfl rfl ?_
      exact z_iret C dX7_isClass_33 (bI_nar _) (Nat.le_of_ble_eq_true rfl) (Nat.le_of_ble_eq_true rfl) ⟨congrArg (fun b => some (Value.int (iI (bI b)))) (by clear C hκ hκl ; first | (simp_all [clB, tyB]; done) | (simp_all [clB, tyB] <;> omega) | (grind [clB, tyB]) | (simp [clB, tyB] at * <;> omega)), rfl⟩
    · skip
      refine z_aload_n C 19 0 dX7_isClass_18 rfl rfl ?_
      refine m_geta C hκ 22 1 (by decide) rfl q1996 rfl dX7_isClass_19 rfl ?_
      refine z_iload_n C 23 1 dX7_isClass_22 rfl rfl ?_
      refine m_iald (len := 60) C hκ hD 24 1 (by decide) rfl rfl (by omega) (by omega) dX7_isClass_23 rfl ?_
      refine z_iconst C 25 dX7_isClass_24 rfl ?_
      refine z_icmp_ne C 32 28 dX7_isClass_25 (by decide) (hw.r _ _ rfl) ⟨by decide, by decide⟩ rfl (fun c3 => ?_) (fun c3 => ?_)
      · skip
        refine z_iconst C 33 dX7_isClass_32 rfl ?_
        refine z_as (st' := [.int (iI (bI (false)))]) rfl rfl rfl ?_
        exact z_iret C dX7_isClass_33 (bI_nar _) (Nat.le_of_ble_eq_true rfl) (Nat.le_of_ble_eq_true rfl) ⟨congrArg (fun b => some (Value.int (iI (bI b)))) (by clear C hκ hκl ; first | (simp_all [clB, tyB]; done) | (simp_all [clB, tyB] <;> omega) | (grind [clB, tyB]) | (simp [clB, tyB] at * <;> omega)), rfl⟩
      · skip
        refine z_iconst C 29 dX7_isClass_28 rfl ?_
        refine z_goto C 33 dX7_isClass_29 (by decide) ?_
        refine z_as (st' := [.int (iI (bI (true)))]) rfl rfl rfl ?_
        exact z_iret C dX7_isClass_33 (bI_nar _) (Nat.le_of_ble_eq_true rfl) (Nat.le_of_ble_eq_true rfl) ⟨congrArg (fun b => some (Value.int (iI (bI b)))) (by clear C hκ hκl ; first | (simp_all [clB, tyB]; done) | (simp_all [clB, tyB] <;> omega) | (grind [clB, tyB]) | (simp [clB, tyB] at * <;> omega)), rfl⟩
set_option maxRecDepth 100000 in
theorem k7_declares {l : Launch} {θ : zTh} {N : zMap} {am : Nat} {ar : Nat → Nat} {w : mW} (hD : mDis am ar) (hw : mWF w) (t : Int) (r_t : inR t) (hB : mB w) : ZF θ l yX7_declares cX7_declares 2 (some .boolean) ⟨3, 0, 0, 67⟩ [.ref (am), .int (iI (t))] (mP θ am ar w N) (some (.int (iI (bI (dcB w t))))) (mP θ am ar w N) := by
  refine z_start (own := RX7) (nm := "declares") pnX7 rfl rfl (Nat.le_of_ble_eq_true rfl) ?_
  intro κ hκ hκl C
  change Z κ (mP θ am ar w N) 0 0 0 [(0, .ref (am)), (1, .int (iI (t)))] []
  have hB' := hB; obtain ⟨hB1, hB2, hB3, hB4, hB5, hB6⟩ := hB'
  refine z_aload_n C 1 0 dX7_declares_0 rfl rfl ?_
  refine z_iload_n C 2 1 dX7_declares_1 rfl rfl ?_
  refine z_callVF (n' := 0) (k' := 0) (As := [.int (iI (t))]) (rest := []) C hκ hκl 5 (k7_isType hD hw (t) r_t hB) dX7_declares_2 q2160 q2162 qs40 q97 q2163 znX7_isType (Nat.le_of_ble_eq_true rfl) (Nat.le_of_ble_eq_true rfl) (Nat.le_of_ble_eq_true rfl) (Nat.le_of_ble_eq_true rfl) mrec rfl rfl (Nat.le_of_ble_eq_true rfl) rfl rfl rfl ?_
  refine z_ifB_eq C 36 8 dX7_declares_5 (by decide) rfl (fun c1 => ?_) (fun c1 => ?_)
  · skip
    have c1b : ¬ (0 ≤ (t) ∧ (t) < w 0 0) := of_decide_eq_false c1
    refine z_iconst C 37 dX7_declares_36 rfl ?_
    refine z_as (st' := [.int (iI (bI (false)))]) rfl rfl rfl ?_
    exact z_iret C dX7_declares_37 (bI_nar _) (Nat.le_of_ble_eq_true rfl) (Nat.le_of_ble_eq_true rfl) ⟨congrArg (fun b => some (Value.int (iI (bI b)))) (by clear C hκ hκl ; first | (simp_all [dcB, clB, tyB]; done) | (simp_all [dcB, clB, tyB] <;> omega) | (grind [dcB, clB, tyB]) | (simp [dcB, clB, tyB] at * <;> omega)), rfl⟩
  · skip
    have c1b : (0 ≤ (t) ∧ (t) < w 0 0) := of_decide_eq_true c1
    refine z_iload_n C 9 1 dX7_declares_8 rfl rfl ?_
    refine z_bipush C 11 dX7_declares_9 (by decide) rfl ?_
    refine z_icmp_eq C 36 14 dX7_declares_11 (by decide) r_t ⟨by decide, by decide⟩ rfl (fun c2 => ?_) (fun c2 => ?_)
    · skip
      refine z_iconst C 37 dX7_declares_36 rfl ?_
      refine z_as (st' := [.int (iI (bI (false)))]) rfl rfl rfl ?_
      exact z_iret C dX7_declares_37 (bI_nar _) (Nat.le_of_ble_eq_true rfl) (Nat.le_of_ble_eq_true rfl) ⟨congrArg (fun b => some (Value.int (iI (bI b)))) (by clear C hκ hκl ; first | (simp_all [dcB, clB, tyB]; done) | (simp_all [dcB, clB, tyB] <;> omega) | (grind [dcB, clB, tyB]) | (simp [dcB, clB, tyB] at * <;> omega)), rfl⟩
    · skip
      refine z_aload_n C 15 0 dX7_declares_14 rfl rfl ?_
      refine z_iload_n C 16 1 dX7_declares_15 rfl rfl ?_
      refine z_callVF (n' := 0) (k' := 0) (As := [.int (iI (t))]) (rest := []) C hκ hκl 19 (k7_isClass hD hw (t) r_t hB) dX7_declares_16 q2156 q2158 qs39 q97 q2159 znX7_isClass (Nat.le_of_ble_eq_true rfl) (Nat.le_of_ble_eq_true rfl) (Nat.le_of_ble_eq_true rfl) (Nat.le_of_ble_eq_true rfl) mrec rfl rfl (Nat.le_of_ble_eq_true rfl) rfl rfl rfl ?_
      refine z_ifB_ne C 32 22 dX7_declares_19 (by decide) rfl (fun c3 => ?_) (fun c3 => ?_)
      · skip
        have c3b : (0 ≤ (t) ∧ (t) < w 0 0 ∧ (w 1 (t) = 1 ∨ w 1 (t) = 2)) := of_decide_eq_true c3
        refine z_iconst C 33 dX7_declares_32 rfl ?_
        refine z_goto C 37 dX7_declares_33 (by decide) ?_
        refine z_as (st' := [.int (iI (bI (true)))]) rfl rfl rfl ?_
        exact z_iret C dX7_declares_37 (bI_nar _) (Nat.le_of_ble_eq_true rfl) (Nat.le_of_ble_eq_true rfl) ⟨congrArg (fun b => some (Value.int (iI (bI b)))) (by clear C hκ hκl ; first | (simp_all [dcB, clB, tyB]; done) | (simp_all [dcB, clB, tyB] <;> omega) | (grind [dcB, clB, tyB]) | (simp [dcB, clB, tyB] at * <;> omega)), rfl⟩
      · skip
        have c3b : ¬ (0 ≤ (t) ∧ (t) < w 0 0 ∧ (w 1 (t) = 1 ∨ w 1 (t) = 2)) := of_decide_eq_false c3
        refine z_aload_n C 23 0 dX7_declares_22 rfl rfl ?_
        refine m_geta C hκ 26 1 (by decide) rfl q1996 rfl dX7_declares_23 rfl ?_
        refine z_iload_n C 27 1 dX7_declares_26 rfl rfl ?_
        refine m_iald (len := 60) C hκ hD 28 1 (by decide) rfl rfl (by omega) (by omega) dX7_declares_27 rfl ?_
        refine z_iconst C 29 dX7_declares_28 rfl ?_
        refine z_icmp_ne C 36 32 dX7_declares_29 (by decide) (hw.r _ _ rfl) ⟨by decide, by decide⟩ rfl (fun c4 => ?_) (fun c4 => ?_)
        · skip
          refine z_iconst C 37 dX7_declares_36 rfl ?_
          refine z_as (st' := [.int (iI (bI (false)))]) rfl rfl rfl ?_
          exact z_iret C dX7_declares_37 (bI_nar _) (Nat.le_of_ble_eq_true rfl) (Nat.le_of_ble_eq_true rfl) ⟨congrArg (fun b => some (Value.int (iI (bI b)))) (by clear C hκ hκl ; first | (simp_all [dcB, clB, tyB]; done) | (simp_all [dcB, clB, tyB] <;> omega) | (grind [dcB, clB, tyB]) | (simp [dcB, clB, tyB] at * <;> omega)), rfl⟩
        · skip
          refine z_iconst C 33 dX7_declares_32 rfl ?_
          refine z_goto C 37 dX7_declares_33 (by decide) ?_
          refine z_as (st' := [.int (iI (bI (true)))]) rfl rfl rfl ?_
          exact z_iret C dX7_declares_37 (bI_nar _) (Nat.le_of_ble_eq_true rfl) (Nat.le_of_ble_eq_true rfl) ⟨congrArg (fun b => some (Value.int (iI (bI b)))) (by clear C hκ hκl ; first | (simp_all [dcB, clB, tyB]; done) | (simp_all [dcB, clB, tyB] <;> omega) | (grind [dcB, clB, tyB]) | (simp [dcB, clB, tyB] at * <;> omega)), rfl⟩
set_option maxRecDepth 100000 in
theorem k7_isOne {l : Launch} {θ : zTh} {N : zMap} {am : Nat} {ar : Nat → Nat} {w : mW} (hD : mDis am ar) (hw : mWF w) (a : Int) (b : Int) (r_a : inR a) (r_b : inR b) (ha : 0 ≤ a ∧ a < 60) (hb : 0 ≤ b ∧ b < 60) : ZF θ l yX7_isOne cX7_isOne 3 (some .boolean) ⟨0, 0, 0, 0⟩ [.ref (am), .int (iI (a)), .int (iI (b))] (mP θ am ar w N) (some (.int (iI (bI (isa w a b))))) (mP θ am ar w N) := by
  refine z_start (own := RX7) (nm := "isOne") pnX7 rfl rfl (Nat.le_of_ble_eq_true rfl) ?_
  intro κ hκ hκl C
  change Z κ (mP θ am ar w N) 0 0 0 [(0, .ref (am)), (1, .int (iI (a))), (2, .int (iI (b)))] []
  refine z_aload_n C 1 0 dX7_isOne_0 rfl rfl ?_
  refine m_geta C hκ 4 8 (by decide) rfl q2003 rfl dX7_isOne_1 rfl ?_
  refine z_bipush C 6 dX7_isOne_4 (by decide) rfl ?_
  refine z_iload_n C 7 1 dX7_isOne_6 rfl rfl ?_
  refine z_imul C 8 dX7_isOne_7 rfl ?_
  refine z_iload_n C 9 2 dX7_isOne_8 rfl rfl ?_
  refine z_iadd C 10 dX7_isOne_9 rfl ?_
  refine m_bald (len := 3600) C hκ hD hw 11 8 (by decide) rfl rfl rfl (by omega) (by omega) dX7_isOne_10 rfl ?_
  exact z_iret C dX7_isOne_11 (bI_nar _) (Nat.le_of_ble_eq_true rfl) (Nat.le_of_ble_eq_true rfl) ⟨congrArg (fun b => some (Value.int (iI (bI b)))) (rfl), rfl⟩
set_option maxRecDepth 100000 in
theorem k7_has {l : Launch} {θ : zTh} {N : zMap} {am : Nat} {ar : Nat → Nat} {w : mW} (hD : mDis am ar) (hw : mWF w) (m : Int) (k : Int) (r_m : inR m) (r_k : inR k) (hm : 0 ≤ m ∧ m < 100) : ZF θ l yX7_has cX7_has 3 (some .boolean) ⟨0, 0, 0, 0⟩ [.ref (am), .int (iI (m)), .int (iI (k))] (mP θ am ar w N) (some (.int (iI (bI (hasB w m k))))) (mP θ am ar w N) := by
  refine z_start (own := RX7) (nm := "has") pnX7 rfl rfl (Nat.le_of_ble_eq_true rfl) ?_
  intro κ hκ hκl C
  change Z κ (mP θ am ar w N) 0 0 0 [(0, .ref (am)), (1, .int (iI (m))), (2, .int (iI (k)))] []
  refine z_aload_n C 1 0 dX7_has_0 rfl rfl ?_
  refine m_geta C hκ 4 15 (by decide) rfl q2010 rfl dX7_has_1 rfl ?_
  refine z_iload_n C 5 1 dX7_has_4 rfl rfl ?_
  refine m_iald (len := 100) C hκ hD 6 15 (by decide) rfl rfl (by omega) (by omega) dX7_has_5 rfl ?_
  refine z_iload_n C 7 2 dX7_has_6 rfl rfl ?_
  refine z_iand C 8 dX7_has_7 rfl ?_
  refine z_if_eq C 15 11 dX7_has_8 (by decide) (inR_zand _ _) rfl (fun c1 => ?_) (fun c1 => ?_)
  · skip
    refine z_iconst C 16 dX7_has_15 rfl ?_
    refine z_as (st' := [.int (iI (bI (false)))]) rfl rfl rfl ?_
    exact z_iret C dX7_has_16 (bI_nar _) (Nat.le_of_ble_eq_true rfl) (Nat.le_of_ble_eq_true rfl) ⟨congrArg (fun b => some (Value.int (iI (bI b)))) (by clear C hκ hκl ; first | (simp_all [hasB]; done) | (simp_all [hasB] <;> omega) | (grind [hasB]) | (simp [hasB] at * <;> omega)), rfl⟩
  · skip
    refine z_iconst C 12 dX7_has_11 rfl ?_
    refine z_goto C 16 dX7_has_12 (by decide) ?_
    refine z_as (st' := [.int (iI (bI (true)))]) rfl rfl rfl ?_
    exact z_iret C dX7_has_16 (bI_nar _) (Nat.le_of_ble_eq_true rfl) (Nat.le_of_ble_eq_true rfl) ⟨congrArg (fun b => some (Value.int (iI (bI b)))) (by clear C hκ hκl ; first | (simp_all [hasB]; done) | (simp_all [hasB] <;> omega) | (grind [hasB]) | (simp [hasB] at * <;> omega)), rfl⟩
set_option maxRecDepth 100000 in
theorem k7_who {l : Launch} {θ : zTh} {N : zMap} {am : Nat} {ar : Nat → Nat} {w : mW} (hD : mDis am ar) (hw : mWF w) (m : Int) (r_m : inR m) (hm : 0 ≤ m ∧ m < 100) : ZF θ l yX7_who cX7_who 2 (some .int) ⟨0, 0, 0, 0⟩ [.ref (am), .int (iI (m))] (mP θ am ar w N) (some (.int (iI (whoI w m)))) (mP θ am ar w N) := by
  refine z_start (own := RX7) (nm := "who") pnX7 rfl rfl (Nat.le_of_ble_eq_true rfl) ?_
  intro κ hκ hκl C
  change Z κ (mP θ am ar w N) 0 0 0 [(0, .ref (am)), (1, .int (iI (m)))] []
  refine z_aload_n C 1 0 dX7_who_0 rfl rfl ?_
  refine m_geta C hκ 4 15 (by decide) rfl q2010 rfl dX7_who_1 rfl ?_
  refine z_iload_n C 5 1 dX7_who_4 rfl rfl ?_
  refine m_iald (len := 100) C hκ hD 6 15 (by decide) rfl rfl (by omega) (by omega) dX7_who_5 rfl ?_
  refine z_iconst C 7 dX7_who_6 rfl ?_
  refine z_iand C 8 dX7_who_7 rfl ?_
  exact z_iret C dX7_who_8 rfl (Nat.le_of_ble_eq_true rfl) (Nat.le_of_ble_eq_true rfl) ⟨congrArg (fun z => some (Value.int (iI z))) (rfl), rfl⟩
set_option maxRecDepth 100000 in
theorem k7_isPrivate {l : Launch} {θ : zTh} {N : zMap} {am : Nat} {ar : Nat → Nat} {w : mW} (hD : mDis am ar) (hw : mWF w) (m : Int) (r_m : inR m) (hm : 0 ≤ m ∧ m < 100) : ZF θ l yX7_isPrivate cX7_isPrivate 2 (some .boolean) ⟨1, 0, 0, 21⟩ [.ref (am), .int (iI (m))] (mP θ am ar w N) (some (.int (iI (bI (prB w m))))) (mP θ am ar w N) := by
  refine z_start (own := RX7) (nm := "isPrivate") pnX7 rfl rfl (Nat.le_of_ble_eq_true rfl) ?_
  intro κ hκ hκl C
  change Z κ (mP θ am ar w N) 0 0 0 [(0, .ref (am)), (1, .int (iI (m)))] []
  refine z_aload_n C 1 0 dX7_isPrivate_0 rfl rfl ?_
  refine z_iload_n C 2 1 dX7_isPrivate_1 rfl rfl ?_
  refine z_callVF (n' := 0) (k' := 0) (As := [.int (iI (m))]) (rest := []) C hκ hκl 5 (k7_who hD hw (m) r_m (by omega)) dX7_isPrivate_2 q2279 q2281 qs55 q97 q2282 znX7_who (Nat.le_of_ble_eq_true rfl) (Nat.le_of_ble_eq_true rfl) (Nat.le_of_ble_eq_true rfl) (Nat.le_of_ble_eq_true rfl) mrec rfl rfl (Nat.le_of_ble_eq_true rfl) rfl rfl rfl ?_
  refine z_iconst C 6 dX7_isPrivate_5 rfl ?_
  refine z_icmp_ne C 13 9 dX7_isPrivate_6 (by decide) (inR_zand _ _) ⟨by decide, by decide⟩ rfl (fun c1 => ?_) (fun c1 => ?_)
  · skip
    refine z_iconst C 14 dX7_isPrivate_13 rfl ?_
    refine z_as (st' := [.int (iI (bI (false)))]) rfl rfl rfl ?_
    exact z_iret C dX7_isPrivate_14 (bI_nar _) (Nat.le_of_ble_eq_true rfl) (Nat.le_of_ble_eq_true rfl) ⟨congrArg (fun b => some (Value.int (iI (bI b)))) (by clear C hκ hκl ; first | (simp_all [prB]; done) | (simp_all [prB] <;> omega) | (grind [prB]) | (simp [prB] at * <;> omega)), rfl⟩
  · skip
    refine z_iconst C 10 dX7_isPrivate_9 rfl ?_
    refine z_goto C 14 dX7_isPrivate_10 (by decide) ?_
    refine z_as (st' := [.int (iI (bI (true)))]) rfl rfl rfl ?_
    exact z_iret C dX7_isPrivate_14 (bI_nar _) (Nat.le_of_ble_eq_true rfl) (Nat.le_of_ble_eq_true rfl) ⟨congrArg (fun b => some (Value.int (iI (bI b)))) (by clear C hκ hκl ; first | (simp_all [prB]; done) | (simp_all [prB] <;> omega) | (grind [prB]) | (simp [prB] at * <;> omega)), rfl⟩
set_option maxRecDepth 100000 in
theorem k7_widens {l : Launch} {θ : zTh} {Pic : Heap → Prop} (a : Int) (b : Int) (r_a : inR a) (r_b : inR b)  : ZF θ l yX7_widens cX7_widens 2 (some .boolean) ⟨0, 0, 0, 0⟩ [.int (iI (a)), .int (iI (b))] (Pic) (some (.int (iI (bI (wdB a b))))) (Pic) := by
  refine z_start (own := RX7) (nm := "widens") pnX7 rfl rfl (Nat.le_of_ble_eq_true rfl) ?_
  intro κ hκ hκl C
  change Z κ (Pic) 0 0 0 [(0, .int (iI (a))), (1, .int (iI (b)))] []
  refine z_iload_n C 1 0 dX7_widens_0 rfl rfl ?_
  refine z_iload_n C 2 1 dX7_widens_1 rfl rfl ?_
  refine z_icmp_ne C 7 5 dX7_widens_2 (by decide) r_a r_b rfl (fun c1 => ?_) (fun c1 => ?_)
  · skip
    refine z_iload_n C 8 0 dX7_widens_7 rfl rfl ?_
    refine z_iconst C 9 dX7_widens_8 rfl ?_
    refine z_icmp_ne C 25 12 dX7_widens_9 (by decide) r_a ⟨by decide, by decide⟩ rfl (fun c2 => ?_) (fun c2 => ?_)
    · skip
      refine z_iload_n C 26 0 dX7_widens_25 rfl rfl ?_
      refine z_iconst C 27 dX7_widens_26 rfl ?_
      refine z_icmp_lt C 45 30 dX7_widens_27 (by decide) r_a ⟨by decide, by decide⟩ rfl (fun c3 => ?_) (fun c3 => ?_)
      · skip
        refine z_iconst C 46 dX7_widens_45 rfl ?_
        refine z_as (st' := [.int (iI (bI (false)))]) rfl rfl rfl ?_
        exact z_iret C dX7_widens_46 (bI_nar _) (Nat.le_of_ble_eq_true rfl) (Nat.le_of_ble_eq_true rfl) ⟨congrArg (fun b => some (Value.int (iI (bI b)))) (by clear C hκ hκl ; first | (simp_all [wdB]; done) | (simp_all [wdB] <;> omega) | (grind [wdB]) | (simp [wdB] at * <;> omega)), rfl⟩
      · skip
        refine z_iload_n C 31 0 dX7_widens_30 rfl rfl ?_
        refine z_bipush C 33 dX7_widens_31 (by decide) rfl ?_
        refine z_icmp_gt C 45 36 dX7_widens_33 (by decide) r_a ⟨by decide, by decide⟩ rfl (fun c4 => ?_) (fun c4 => ?_)
        · skip
          refine z_iconst C 46 dX7_widens_45 rfl ?_
          refine z_as (st' := [.int (iI (bI (false)))]) rfl rfl rfl ?_
          exact z_iret C dX7_widens_46 (bI_nar _) (Nat.le_of_ble_eq_true rfl) (Nat.le_of_ble_eq_true rfl) ⟨congrArg (fun b => some (Value.int (iI (bI b)))) (by clear C hκ hκl ; first | (simp_all [wdB]; done) | (simp_all [wdB] <;> omega) | (grind [wdB]) | (simp [wdB] at * <;> omega)), rfl⟩
        · skip
          refine z_iload_n C 37 1 dX7_widens_36 rfl rfl ?_
          refine z_iload_n C 38 0 dX7_widens_37 rfl rfl ?_
          refine z_icmp_le C 45 41 dX7_widens_38 (by decide) r_b r_a rfl (fun c5 => ?_) (fun c5 => ?_)
          · skip
            refine z_iconst C 46 dX7_widens_45 rfl ?_
            refine z_as (st' := [.int (iI (bI (false)))]) rfl rfl rfl ?_
            exact z_iret C dX7_widens_46 (bI_nar _) (Nat.le_of_ble_eq_true rfl) (Nat.le_of_ble_eq_true rfl) ⟨congrArg (fun b => some (Value.int (iI (bI b)))) (by clear C hκ hκl ; first | (simp_all [wdB]; done) | (simp_all [wdB] <;> omega) | (grind [wdB]) | (simp [wdB] at * <;> omega)), rfl⟩
          · skip
            refine z_iconst C 42 dX7_widens_41 rfl ?_
            refine z_goto C 46 dX7_widens_42 (by decide) ?_
            refine z_as (st' := [.int (iI (bI (true)))]) rfl rfl rfl ?_
            exact z_iret C dX7_widens_46 (bI_nar _) (Nat.le_of_ble_eq_true rfl) (Nat.le_of_ble_eq_true rfl) ⟨congrArg (fun b => some (Value.int (iI (bI b)))) (by clear C hκ hκl ; first | (simp_all [wdB]; done) | (simp_all [wdB] <;> omega) | (grind [wdB]) | (simp [wdB] at * <;> omega)), rfl⟩
    · skip
      refine z_iload_n C 13 1 dX7_widens_12 rfl rfl ?_
      refine z_iconst C 14 dX7_widens_13 rfl ?_
      refine z_icmp_lt C 21 17 dX7_widens_14 (by decide) r_b ⟨by decide, by decide⟩ rfl (fun c6 => ?_) (fun c6 => ?_)
      · skip
        refine z_iconst C 22 dX7_widens_21 rfl ?_
        refine z_goto C 46 dX7_widens_22 (by decide) ?_
        refine z_as (st' := [.int (iI (bI (false)))]) rfl rfl rfl ?_
        exact z_iret C dX7_widens_46 (bI_nar _) (Nat.le_of_ble_eq_true rfl) (Nat.le_of_ble_eq_true rfl) ⟨congrArg (fun b => some (Value.int (iI (bI b)))) (by clear C hκ hκl ; first | (simp_all [wdB]; done) | (simp_all [wdB] <;> omega) | (grind [wdB]) | (simp [wdB] at * <;> omega)), rfl⟩
      · skip
        refine z_iconst C 18 dX7_widens_17 rfl ?_
        refine z_goto C 46 dX7_widens_18 (by decide) ?_
        refine z_as (st' := [.int (iI (bI (true)))]) rfl rfl rfl ?_
        exact z_iret C dX7_widens_46 (bI_nar _) (Nat.le_of_ble_eq_true rfl) (Nat.le_of_ble_eq_true rfl) ⟨congrArg (fun b => some (Value.int (iI (bI b)))) (by clear C hκ hκl ; first | (simp_all [wdB]; done) | (simp_all [wdB] <;> omega) | (grind [wdB]) | (simp [wdB] at * <;> omega)), rfl⟩
  · skip
    refine z_iconst C 6 dX7_widens_5 rfl ?_
    refine z_as (st' := [.int (iI (bI (true)))]) rfl rfl rfl ?_
    exact z_iret C dX7_widens_6 (bI_nar _) (Nat.le_of_ble_eq_true rfl) (Nat.le_of_ble_eq_true rfl) ⟨congrArg (fun b => some (Value.int (iI (bI b)))) (by clear C hκ hκl ; first | (simp_all [wdB]; done) | (simp_all [wdB] <;> omega) | (grind [wdB]) | (simp [wdB] at * <;> omega)), rfl⟩
set_option maxRecDepth 100000 in
theorem k7_goesInto {l : Launch} {θ : zTh} {N : zMap} {am : Nat} {ar : Nat → Nat} {w : mW} (hD : mDis am ar) (hw : mWF w) (a : Int) (b : Int) (r_a : inR a) (r_b : inR b) (ha : 0 ≤ a ∧ a < 60) (hb : 0 ≤ b ∧ b < 60) : ZF θ l yX7_goesInto cX7_goesInto 3 (some .boolean) ⟨1, 0, 0, 22⟩ [.ref (am), .int (iI (a)), .int (iI (b))] (mP θ am ar w N) (some (.int (iI (bI (giB w a b))))) (mP θ am ar w N) := by
  refine z_start (own := RX7) (nm := "goesInto") pnX7 rfl rfl (Nat.le_of_ble_eq_true rfl) ?_
  intro κ hκ hκl C
  change Z κ (mP θ am ar w N) 0 0 0 [(0, .ref (am)), (1, .int (iI (a))), (2, .int (iI (b)))] []
  refine z_iload_n C 1 1 dX7_goesInto_0 rfl rfl ?_
  refine z_bipush C 3 dX7_goesInto_1 (by decide) rfl ?_
  refine z_icmp_ge C 28 6 dX7_goesInto_3 (by decide) r_a ⟨by decide, by decide⟩ rfl (fun c1 => ?_) (fun c1 => ?_)
  · skip
    refine z_iload_n C 29 2 dX7_goesInto_28 rfl rfl ?_
    refine z_bipush C 31 dX7_goesInto_29 (by decide) rfl ?_
    refine z_icmp_lt C 47 34 dX7_goesInto_31 (by decide) r_b ⟨by decide, by decide⟩ rfl (fun c2 => ?_) (fun c2 => ?_)
    · skip
      refine z_iconst C 48 dX7_goesInto_47 rfl ?_
      refine z_as (st' := [.int (iI (bI (false)))]) rfl rfl rfl ?_
      exact z_iret C dX7_goesInto_48 (bI_nar _) (Nat.le_of_ble_eq_true rfl) (Nat.le_of_ble_eq_true rfl) ⟨congrArg (fun b => some (Value.int (iI (bI b)))) (by clear C hκ hκl ; first | (simp_all [giB]; done) | (simp_all [giB] <;> omega) | (grind [giB]) | (simp [giB] at * <;> omega)), rfl⟩
    · skip
      refine z_aload_n C 35 0 dX7_goesInto_34 rfl rfl ?_
      refine z_iload_n C 36 1 dX7_goesInto_35 rfl rfl ?_
      refine z_iload_n C 37 2 dX7_goesInto_36 rfl rfl ?_
      refine z_callVF (n' := 0) (k' := 0) (As := [.int (iI (a)), .int (iI (b))]) (rest := []) C hκ hκl 40 (k7_isOne hD hw (a) (b) r_a r_b (by omega) (by omega)) dX7_goesInto_37 q2197 q2199 qs44 q97 q2200 znX7_isOne (Nat.le_of_ble_eq_true rfl) (Nat.le_of_ble_eq_true rfl) (Nat.le_of_ble_eq_true rfl) (Nat.le_of_ble_eq_true rfl) mrec rfl rfl (Nat.le_of_ble_eq_true rfl) rfl rfl rfl ?_
      refine z_ifB_eq C 47 43 dX7_goesInto_40 (by decide) rfl (fun c3 => ?_) (fun c3 => ?_)
      · skip
        refine z_iconst C 48 dX7_goesInto_47 rfl ?_
        refine z_as (st' := [.int (iI (bI (false)))]) rfl rfl rfl ?_
        exact z_iret C dX7_goesInto_48 (bI_nar _) (Nat.le_of_ble_eq_true rfl) (Nat.le_of_ble_eq_true rfl) ⟨congrArg (fun b => some (Value.int (iI (bI b)))) (by clear C hκ hκl ; first | (simp_all [giB]; done) | (simp_all [giB] <;> omega) | (grind [giB]) | (simp [giB] at * <;> omega)), rfl⟩
      · skip
        refine z_iconst C 44 dX7_goesInto_43 rfl ?_
        refine z_goto C 48 dX7_goesInto_44 (by decide) ?_
        refine z_as (st' := [.int (iI (bI (true)))]) rfl rfl rfl ?_
        exact z_iret C dX7_goesInto_48 (bI_nar _) (Nat.le_of_ble_eq_true rfl) (Nat.le_of_ble_eq_true rfl) ⟨congrArg (fun b => some (Value.int (iI (bI b)))) (by clear C hκ hκl ; first | (simp_all [giB]; done) | (simp_all [giB] <;> omega) | (grind [giB]) | (simp [giB] at * <;> omega)), rfl⟩
  · skip
    refine z_iload_n C 7 2 dX7_goesInto_6 rfl rfl ?_
    refine z_bipush C 9 dX7_goesInto_7 (by decide) rfl ?_
    refine z_icmp_ge C 24 12 dX7_goesInto_9 (by decide) r_b ⟨by decide, by decide⟩ rfl (fun c4 => ?_) (fun c4 => ?_)
    · skip
      refine z_iconst C 25 dX7_goesInto_24 rfl ?_
      refine z_goto C 48 dX7_goesInto_25 (by decide) ?_
      refine z_as (st' := [.int (iI (bI (false)))]) rfl rfl rfl ?_
      exact z_iret C dX7_goesInto_48 (bI_nar _) (Nat.le_of_ble_eq_true rfl) (Nat.le_of_ble_eq_true rfl) ⟨congrArg (fun b => some (Value.int (iI (bI b)))) (by clear C hκ hκl ; first | (simp_all [giB]; done) | (simp_all [giB] <;> omega) | (grind [giB]) | (simp [giB] at * <;> omega)), rfl⟩
    · skip
      refine z_iload_n C 13 1 dX7_goesInto_12 rfl rfl ?_
      refine z_iload_n C 14 2 dX7_goesInto_13 rfl rfl ?_
      refine z_callSF (n' := 0) (k' := 0) (As := [.int (iI (a)), .int (iI (b))]) (rest := []) C hκ hκl 17 (k7_widens (a) (b) r_a r_b) dX7_goesInto_14 q2213 q2214 q97 q2215 znX7_widens (Nat.le_of_ble_eq_true rfl) (Nat.le_of_ble_eq_true rfl) (Nat.le_of_ble_eq_true rfl) (Nat.le_of_ble_eq_true rfl) rfl (Nat.le_of_ble_eq_true rfl) rfl rfl rfl ?_
      refine z_ifB_eq C 24 20 dX7_goesInto_17 (by decide) rfl (fun c5 => ?_) (fun c5 => ?_)
      · skip
        refine z_iconst C 25 dX7_goesInto_24 rfl ?_
        refine z_goto C 48 dX7_goesInto_25 (by decide) ?_
        refine z_as (st' := [.int (iI (bI (false)))]) rfl rfl rfl ?_
        exact z_iret C dX7_goesInto_48 (bI_nar _) (Nat.le_of_ble_eq_true rfl) (Nat.le_of_ble_eq_true rfl) ⟨congrArg (fun b => some (Value.int (iI (bI b)))) (by clear C hκ hκl ; first | (simp_all [giB]; done) | (simp_all [giB] <;> omega) | (grind [giB]) | (simp [giB] at * <;> omega)), rfl⟩
      · skip
        refine z_iconst C 21 dX7_goesInto_20 rfl ?_
        refine z_goto C 48 dX7_goesInto_21 (by decide) ?_
        refine z_as (st' := [.int (iI (bI (true)))]) rfl rfl rfl ?_
        exact z_iret C dX7_goesInto_48 (bI_nar _) (Nat.le_of_ble_eq_true rfl) (Nat.le_of_ble_eq_true rfl) ⟨congrArg (fun b => some (Value.int (iI (bI b)))) (by clear C hκ hκl ; first | (simp_all [giB]; done) | (simp_all [giB] <;> omega) | (grind [giB]) | (simp [giB] at * <;> omega)), rfl⟩
set_option maxRecDepth 100000 in
theorem k7_isMember {l : Launch} {θ : zTh} {N : zMap} {am : Nat} {ar : Nat → Nat} {w : mW} (hD : mDis am ar) (hw : mWF w) (m : Int) (r_m : inR m) (hB : mB w) : ZF θ l yX7_isMember cX7_isMember 2 (some .boolean) ⟨1, 0, 0, 25⟩ [.ref (am), .int (iI (m))] (mP θ am ar w N) (some (.int (iI (bI (mbB w m))))) (mP θ am ar w N) := by
  refine z_start (own := RX7) (nm := "isMember") pnX7 rfl rfl (Nat.le_of_ble_eq_true rfl) ?_
  intro κ hκ hκl C
  change Z κ (mP θ am ar w N) 0 0 0 [(0, .ref (am)), (1, .int (iI (m)))] []
  have hB' := hB; obtain ⟨hB1, hB2, hB3, hB4, hB5, hB6⟩ := hB'
  refine z_iload_n C 1 1 dX7_isMember_0 rfl rfl ?_
  refine z_i2l C 2 dX7_isMember_1 r_m rfl ?_
  refine z_lconst (x := 0) C 3 dX7_isMember_2 rfl rfl ?_
  refine z_aload_n C 4 0 dX7_isMember_3 rfl rfl ?_
  refine m_geti C hκ 7 11 (by decide) rfl q2006 rfl dX7_isMember_4 rfl ?_
  refine z_iconst C 8 dX7_isMember_7 rfl ?_
  refine z_isub C 9 dX7_isMember_8 rfl ?_
  refine z_i2l C 10 dX7_isMember_9 ⟨by omega, by omega⟩ rfl ?_
  refine z_callSF (n' := 0) (k' := 0) (As := [.long (lI (m)), .long (lI (0)), .long (lI ((w 11 0) - (1)))]) (rest := []) C hκ hκl 13 (k7_in (m) (0) ((w 11 0) - (1)) (inR_L r_m) ⟨by decide, by decide⟩ (inR_L ⟨by omega, by omega⟩)) dX7_isMember_10 q2164 q2165 q97 q2166 znX7_in (Nat.le_of_ble_eq_true rfl) (Nat.le_of_ble_eq_true rfl) (Nat.le_of_ble_eq_true rfl) (Nat.le_of_ble_eq_true rfl) rfl (Nat.le_of_ble_eq_true rfl) rfl rfl rfl ?_
  exact z_iret C dX7_isMember_13 (bI_nar _) (Nat.le_of_ble_eq_true rfl) (Nat.le_of_ble_eq_true rfl) ⟨congrArg (fun b => some (Value.int (iI (bI b)))) (by unfold mbB; congr 1; apply propext; constructor <;> intro h <;> omega), rfl⟩
set_option maxRecDepth 100000 in
theorem k7_isMethod {l : Launch} {θ : zTh} {N : zMap} {am : Nat} {ar : Nat → Nat} {w : mW} (hD : mDis am ar) (hw : mWF w) (m : Int) (r_m : inR m) (hB : mB w) : ZF θ l yX7_isMethod cX7_isMethod 2 (some .boolean) ⟨2, 0, 0, 46⟩ [.ref (am), .int (iI (m))] (mP θ am ar w N) (some (.int (iI (bI (mtB w m))))) (mP θ am ar w N) := by
  refine z_start (own := RX7) (nm := "isMethod") pnX7 rfl rfl (Nat.le_of_ble_eq_true rfl) ?_
  intro κ hκ hκl C
  change Z κ (mP θ am ar w N) 0 0 0 [(0, .ref (am)), (1, .int (iI (m)))] []
  have hB' := hB; obtain ⟨hB1, hB2, hB3, hB4, hB5, hB6⟩ := hB'
  refine z_aload_n C 1 0 dX7_isMethod_0 rfl rfl ?_
  refine z_iload_n C 2 1 dX7_isMethod_1 rfl rfl ?_
  refine z_callVF (n' := 0) (k' := 0) (As := [.int (iI (m))]) (rest := []) C hκ hκl 5 (k7_isMember hD hw (m) r_m hB) dX7_isMethod_2 q2259 q2261 qs50 q97 q2262 znX7_isMember (Nat.le_of_ble_eq_true rfl) (Nat.le_of_ble_eq_true rfl) (Nat.le_of_ble_eq_true rfl) (Nat.le_of_ble_eq_true rfl) mrec rfl rfl (Nat.le_of_ble_eq_true rfl) rfl rfl rfl ?_
  refine z_ifB_eq C 21 8 dX7_isMethod_5 (by decide) rfl (fun c1 => ?_) (fun c1 => ?_)
  · skip
    have c1b : ¬ (0 ≤ (m) ∧ (m) < w 11 0) := of_decide_eq_false c1
    refine z_iconst C 22 dX7_isMethod_21 rfl ?_
    refine z_as (st' := [.int (iI (bI (false)))]) rfl rfl rfl ?_
    exact z_iret C dX7_isMethod_22 (bI_nar _) (Nat.le_of_ble_eq_true rfl) (Nat.le_of_ble_eq_true rfl) ⟨congrArg (fun b => some (Value.int (iI (bI b)))) (by clear C hκ hκl ; first | (simp_all [mtB, mbB]; done) | (simp_all [mtB, mbB] <;> omega) | (grind [mtB, mbB]) | (simp [mtB, mbB] at * <;> omega)), rfl⟩
  · skip
    have c1b : (0 ≤ (m) ∧ (m) < w 11 0) := of_decide_eq_true c1
    refine z_aload_n C 9 0 dX7_isMethod_8 rfl rfl ?_
    refine m_geta C hκ 12 16 (by decide) rfl q2011 rfl dX7_isMethod_9 rfl ?_
    refine z_iload_n C 13 1 dX7_isMethod_12 rfl rfl ?_
    refine m_bald (len := 100) C hκ hD hw 14 16 (by decide) rfl rfl rfl (by omega) (by omega) dX7_isMethod_13 rfl ?_
    refine z_ifB_ne C 21 17 dX7_isMethod_14 (by decide) rfl (fun c2 => ?_) (fun c2 => ?_)
    · skip
      have c2b : (w 16 (m) = 1) := of_decide_eq_true c2
      refine z_iconst C 22 dX7_isMethod_21 rfl ?_
      refine z_as (st' := [.int (iI (bI (false)))]) rfl rfl rfl ?_
      exact z_iret C dX7_isMethod_22 (bI_nar _) (Nat.le_of_ble_eq_true rfl) (Nat.le_of_ble_eq_true rfl) ⟨congrArg (fun b => some (Value.int (iI (bI b)))) (by clear C hκ hκl ; first | (simp_all [mtB, mbB]; done) | (simp_all [mtB, mbB] <;> omega) | (grind [mtB, mbB]) | (simp [mtB, mbB] at * <;> omega)), rfl⟩
    · skip
      have c2b : ¬ (w 16 (m) = 1) := of_decide_eq_false c2
      refine z_iconst C 18 dX7_isMethod_17 rfl ?_
      refine z_goto C 22 dX7_isMethod_18 (by decide) ?_
      refine z_as (st' := [.int (iI (bI (true)))]) rfl rfl rfl ?_
      exact z_iret C dX7_isMethod_22 (bI_nar _) (Nat.le_of_ble_eq_true rfl) (Nat.le_of_ble_eq_true rfl) ⟨congrArg (fun b => some (Value.int (iI (bI b)))) (by clear C hκ hκl ; first | (simp_all [mtB, mbB]; done) | (simp_all [mtB, mbB] <;> omega) | (grind [mtB, mbB]) | (simp [mtB, mbB] at * <;> omega)), rfl⟩
set_option maxRecDepth 100000 in
theorem k7_isFieldAt {l : Launch} {θ : zTh} {N : zMap} {am : Nat} {ar : Nat → Nat} {w : mW} (hD : mDis am ar) (hw : mWF w) (m : Int) (r_m : inR m) (hB : mB w) : ZF θ l yX7_isFieldAt cX7_isFieldAt 2 (some .boolean) ⟨2, 0, 0, 46⟩ [.ref (am), .int (iI (m))] (mP θ am ar w N) (some (.int (iI (bI (fdB w m))))) (mP θ am ar w N) := by
  refine z_start (own := RX7) (nm := "isFieldAt") pnX7 rfl rfl (Nat.le_of_ble_eq_true rfl) ?_
  intro κ hκ hκl C
  change Z κ (mP θ am ar w N) 0 0 0 [(0, .ref (am)), (1, .int (iI (m)))] []
  have hB' := hB; obtain ⟨hB1, hB2, hB3, hB4, hB5, hB6⟩ := hB'
  refine z_aload_n C 1 0 dX7_isFieldAt_0 rfl rfl ?_
  refine z_iload_n C 2 1 dX7_isFieldAt_1 rfl rfl ?_
  refine z_callVF (n' := 0) (k' := 0) (As := [.int (iI (m))]) (rest := []) C hκ hκl 5 (k7_isMember hD hw (m) r_m hB) dX7_isFieldAt_2 q2259 q2261 qs50 q97 q2262 znX7_isMember (Nat.le_of_ble_eq_true rfl) (Nat.le_of_ble_eq_true rfl) (Nat.le_of_ble_eq_true rfl) (Nat.le_of_ble_eq_true rfl) mrec rfl rfl (Nat.le_of_ble_eq_true rfl) rfl rfl rfl ?_
  refine z_ifB_eq C 21 8 dX7_isFieldAt_5 (by decide) rfl (fun c1 => ?_) (fun c1 => ?_)
  · skip
    have c1b : ¬ (0 ≤ (m) ∧ (m) < w 11 0) := of_decide_eq_false c1
    refine z_iconst C 22 dX7_isFieldAt_21 rfl ?_
    refine z_as (st' := [.int (iI (bI (false)))]) rfl rfl rfl ?_
    exact z_iret C dX7_isFieldAt_22 (bI_nar _) (Nat.le_of_ble_eq_true rfl) (Nat.le_of_ble_eq_true rfl) ⟨congrArg (fun b => some (Value.int (iI (bI b)))) (by clear C hκ hκl ; first | (simp_all [fdB, mbB]; done) | (simp_all [fdB, mbB] <;> omega) | (grind [fdB, mbB]) | (simp [fdB, mbB] at * <;> omega)), rfl⟩
  · skip
    have c1b : (0 ≤ (m) ∧ (m) < w 11 0) := of_decide_eq_true c1
    refine z_aload_n C 9 0 dX7_isFieldAt_8 rfl rfl ?_
    refine m_geta C hκ 12 16 (by decide) rfl q2011 rfl dX7_isFieldAt_9 rfl ?_
    refine z_iload_n C 13 1 dX7_isFieldAt_12 rfl rfl ?_
    refine m_bald (len := 100) C hκ hD hw 14 16 (by decide) rfl rfl rfl (by omega) (by omega) dX7_isFieldAt_13 rfl ?_
    refine z_ifB_eq C 21 17 dX7_isFieldAt_14 (by decide) rfl (fun c2 => ?_) (fun c2 => ?_)
    · skip
      have c2b : ¬ (w 16 (m) = 1) := of_decide_eq_false c2
      refine z_iconst C 22 dX7_isFieldAt_21 rfl ?_
      refine z_as (st' := [.int (iI (bI (false)))]) rfl rfl rfl ?_
      exact z_iret C dX7_isFieldAt_22 (bI_nar _) (Nat.le_of_ble_eq_true rfl) (Nat.le_of_ble_eq_true rfl) ⟨congrArg (fun b => some (Value.int (iI (bI b)))) (by clear C hκ hκl ; first | (simp_all [fdB, mbB]; done) | (simp_all [fdB, mbB] <;> omega) | (grind [fdB, mbB]) | (simp [fdB, mbB] at * <;> omega)), rfl⟩
    · skip
      have c2b : (w 16 (m) = 1) := of_decide_eq_true c2
      refine z_iconst C 18 dX7_isFieldAt_17 rfl ?_
      refine z_goto C 22 dX7_isFieldAt_18 (by decide) ?_
      refine z_as (st' := [.int (iI (bI (true)))]) rfl rfl rfl ?_
      exact z_iret C dX7_isFieldAt_22 (bI_nar _) (Nat.le_of_ble_eq_true rfl) (Nat.le_of_ble_eq_true rfl) ⟨congrArg (fun b => some (Value.int (iI (bI b)))) (by clear C hκ hκl ; first | (simp_all [fdB, mbB]; done) | (simp_all [fdB, mbB] <;> omega) | (grind [fdB, mbB]) | (simp [fdB, mbB] at * <;> omega)), rfl⟩
set_option maxRecDepth 100000 in
theorem k7_none {l : Launch} {θ : zTh} {Pic : Heap → Prop} (t : Int) (r_t : inR t)  : ZF θ l yX7_none cX7_none 1 (some .long) ⟨0, 0, 0, 0⟩ [.int (iI (t))] (Pic) (some (.long (lI (noneI t)))) (Pic) := by
  refine z_start (own := RX7) (nm := "none") pnX7 rfl rfl (Nat.le_of_ble_eq_true rfl) ?_
  intro κ hκ hκl C
  change Z κ (Pic) 0 0 0 [(0, .int (iI (t)))] []
  refine z_iload_n C 1 0 dX7_none_0 rfl rfl ?_
  refine z_bipush C 3 dX7_none_1 (by decide) rfl ?_
  refine z_icmp_lt C 12 6 dX7_none_3 (by decide) r_t ⟨by decide, by decide⟩ rfl (fun c1 => ?_) (fun c1 => ?_)
  · skip
    refine z_lconst (x := 0) C 13 dX7_none_12 rfl rfl ?_
    exact z_lret C dX7_none_13 (Nat.le_of_ble_eq_true rfl) (Nat.le_of_ble_eq_true rfl) ⟨congrArg (fun z => some (Value.long (lI z))) (by clear C hκ hκl ; first | (simp_all [noneI]; done) | (simp_all [noneI] <;> omega) | (grind [noneI]) | (simp [noneI] at * <;> omega)), rfl⟩
  · skip
    refine z_ldc2 (z := (-1)) C 9 dX7_none_6 q2245 (by decide) rfl ?_
    refine z_goto C 13 dX7_none_9 (by decide) ?_
    exact z_lret C dX7_none_13 (Nat.le_of_ble_eq_true rfl) (Nat.le_of_ble_eq_true rfl) ⟨congrArg (fun z => some (Value.long (lI z))) (by clear C hκ hκl ; first | (simp_all [noneI]; done) | (simp_all [noneI] <;> omega) | (grind [noneI]) | (simp [noneI] at * <;> omega)), rfl⟩
set_option maxRecDepth 100000 in
theorem k7_isThing {l : Launch} {θ : zTh} {N : zMap} {am : Nat} {ar : Nat → Nat} {w : mW} (hD : mDis am ar) (hw : mWF w) (x : Int) (r_x : inR x) (hB : mB w) : ZF θ l yX7_isThing cX7_isThing 2 (some .boolean) ⟨1, 0, 0, 25⟩ [.ref (am), .int (iI (x))] (mP θ am ar w N) (some (.int (iI (bI (thB w x))))) (mP θ am ar w N) := by
  refine z_start (own := RX7) (nm := "isThing") pnX7 rfl rfl (Nat.le_of_ble_eq_true rfl) ?_
  intro κ hκ hκl C
  change Z κ (mP θ am ar w N) 0 0 0 [(0, .ref (am)), (1, .int (iI (x)))] []
  have hB' := hB; obtain ⟨hB1, hB2, hB3, hB4, hB5, hB6⟩ := hB'
  refine z_iload_n C 1 1 dX7_isThing_0 rfl rfl ?_
  refine z_i2l C 2 dX7_isThing_1 r_x rfl ?_
  refine z_lconst (x := 0) C 3 dX7_isThing_2 rfl rfl ?_
  refine z_aload_n C 4 0 dX7_isThing_3 rfl rfl ?_
  refine m_geti C hκ 7 27 (by decide) rfl q2022 rfl dX7_isThing_4 rfl ?_
  refine z_iconst C 8 dX7_isThing_7 rfl ?_
  refine z_isub C 9 dX7_isThing_8 rfl ?_
  refine z_i2l C 10 dX7_isThing_9 ⟨by omega, by omega⟩ rfl ?_
  refine z_callSF (n' := 0) (k' := 0) (As := [.long (lI (x)), .long (lI (0)), .long (lI ((w 27 0) - (1)))]) (rest := []) C hκ hκl 13 (k7_in (x) (0) ((w 27 0) - (1)) (inR_L r_x) ⟨by decide, by decide⟩ (inR_L ⟨by omega, by omega⟩)) dX7_isThing_10 q2164 q2165 q97 q2166 znX7_in (Nat.le_of_ble_eq_true rfl) (Nat.le_of_ble_eq_true rfl) (Nat.le_of_ble_eq_true rfl) (Nat.le_of_ble_eq_true rfl) rfl (Nat.le_of_ble_eq_true rfl) rfl rfl rfl ?_
  exact z_iret C dX7_isThing_13 (bI_nar _) (Nat.le_of_ble_eq_true rfl) (Nat.le_of_ble_eq_true rfl) ⟨congrArg (fun b => some (Value.int (iI (bI b)))) (by unfold thB; congr 1; apply propext; constructor <;> intro h <;> omega), rfl⟩
set_option maxRecDepth 100000 in
theorem k7_isThingOrNone {l : Launch} {θ : zTh} {N : zMap} {am : Nat} {ar : Nat → Nat} {w : mW} (hD : mDis am ar) (hw : mWF w) (x : Int) (r_x : inR x) (hB : mB w) : ZF θ l yX7_isThingOrNone cX7_isThingOrNone 2 (some .boolean) ⟨2, 0, 0, 46⟩ [.ref (am), .int (iI (x))] (mP θ am ar w N) (some (.int (iI (bI (tnB w x))))) (mP θ am ar w N) := by
  refine z_start (own := RX7) (nm := "isThingOrNone") pnX7 rfl rfl (Nat.le_of_ble_eq_true rfl) ?_
  intro κ hκ hκl C
  change Z κ (mP θ am ar w N) 0 0 0 [(0, .ref (am)), (1, .int (iI (x)))] []
  have hB' := hB; obtain ⟨hB1, hB2, hB3, hB4, hB5, hB6⟩ := hB'
  refine z_iload_n C 1 1 dX7_isThingOrNone_0 rfl rfl ?_
  refine z_iconst C 2 dX7_isThingOrNone_1 rfl ?_
  refine z_icmp_eq C 13 5 dX7_isThingOrNone_2 (by decide) r_x ⟨by decide, by decide⟩ rfl (fun c1 => ?_) (fun c1 => ?_)
  · skip
    refine z_iconst C 14 dX7_isThingOrNone_13 rfl ?_
    refine z_goto C 18 dX7_isThingOrNone_14 (by decide) ?_
    refine z_as (st' := [.int (iI (bI (true)))]) rfl rfl rfl ?_
    exact z_iret C dX7_isThingOrNone_18 (bI_nar _) (Nat.le_of_ble_eq_true rfl) (Nat.le_of_ble_eq_true rfl) ⟨congrArg (fun b => some (Value.int (iI (bI b)))) (by clear C hκ hκl ; first | (simp_all [tnB, thB]; done) | (simp_all [tnB, thB] <;> omega) | (grind [tnB, thB]) | (simp [tnB, thB] at * <;> omega)), rfl⟩
  · skip
    refine z_aload_n C 6 0 dX7_isThingOrNone_5 rfl rfl ?_
    refine z_iload_n C 7 1 dX7_isThingOrNone_6 rfl rfl ?_
    refine z_callVF (n' := 0) (k' := 0) (As := [.int (iI (x))]) (rest := []) C hκ hκl 10 (k7_isThing hD hw (x) r_x hB) dX7_isThingOrNone_7 q2349 q2351 qs64 q97 q2352 znX7_isThing (Nat.le_of_ble_eq_true rfl) (Nat.le_of_ble_eq_true rfl) (Nat.le_of_ble_eq_true rfl) (Nat.le_of_ble_eq_true rfl) mrec rfl rfl (Nat.le_of_ble_eq_true rfl) rfl rfl rfl ?_
    refine z_ifB_eq C 17 13 dX7_isThingOrNone_10 (by decide) rfl (fun c2 => ?_) (fun c2 => ?_)
    · skip
      have c2b : ¬ (0 ≤ (x) ∧ (x) < w 27 0) := of_decide_eq_false c2
      refine z_iconst C 18 dX7_isThingOrNone_17 rfl ?_
      refine z_as (st' := [.int (iI (bI (false)))]) rfl rfl rfl ?_
      exact z_iret C dX7_isThingOrNone_18 (bI_nar _) (Nat.le_of_ble_eq_true rfl) (Nat.le_of_ble_eq_true rfl) ⟨congrArg (fun b => some (Value.int (iI (bI b)))) (by clear C hκ hκl ; first | (simp_all [tnB, thB]; done) | (simp_all [tnB, thB] <;> omega) | (grind [tnB, thB]) | (simp [tnB, thB] at * <;> omega)), rfl⟩
    · skip
      have c2b : (0 ≤ (x) ∧ (x) < w 27 0) := of_decide_eq_true c2
      refine z_iconst C 14 dX7_isThingOrNone_13 rfl ?_
      refine z_goto C 18 dX7_isThingOrNone_14 (by decide) ?_
      refine z_as (st' := [.int (iI (bI (true)))]) rfl rfl rfl ?_
      exact z_iret C dX7_isThingOrNone_18 (bI_nar _) (Nat.le_of_ble_eq_true rfl) (Nat.le_of_ble_eq_true rfl) ⟨congrArg (fun b => some (Value.int (iI (bI b)))) (by clear C hκ hκl ; first | (simp_all [tnB, thB]; done) | (simp_all [tnB, thB] <;> omega) | (grind [tnB, thB]) | (simp [tnB, thB] at * <;> omega)), rfl⟩
set_option maxRecDepth 100000 in
theorem k7_isSlot {l : Launch} {θ : zTh} {Pic : Heap → Prop} (s : Int) (r_s : inR s)  : ZF θ l yX7_isSlot cX7_isSlot 1 (some .boolean) ⟨1, 0, 0, 25⟩ [.int (iI (s))] (Pic) (some (.int (iI (bI (slB s))))) (Pic) := by
  refine z_start (own := RX7) (nm := "isSlot") pnX7 rfl rfl (Nat.le_of_ble_eq_true rfl) ?_
  intro κ hκ hκl C
  change Z κ (Pic) 0 0 0 [(0, .int (iI (s)))] []
  refine z_iload_n C 1 0 dX7_isSlot_0 rfl rfl ?_
  refine z_i2l C 2 dX7_isSlot_1 r_s rfl ?_
  refine z_lconst (x := 0) C 3 dX7_isSlot_2 rfl rfl ?_
  refine z_ldc2 (z := 7) C 6 dX7_isSlot_3 q2380 (by decide) rfl ?_
  refine z_callSF (n' := 0) (k' := 0) (As := [.long (lI (s)), .long (lI (0)), .long (lI (7))]) (rest := []) C hκ hκl 9 (k7_in (s) (0) (7) (inR_L r_s) ⟨by decide, by decide⟩ ⟨by decide, by decide⟩) dX7_isSlot_6 q2164 q2165 q97 q2166 znX7_in (Nat.le_of_ble_eq_true rfl) (Nat.le_of_ble_eq_true rfl) (Nat.le_of_ble_eq_true rfl) (Nat.le_of_ble_eq_true rfl) rfl (Nat.le_of_ble_eq_true rfl) rfl rfl rfl ?_
  exact z_iret C dX7_isSlot_9 (bI_nar _) (Nat.le_of_ble_eq_true rfl) (Nat.le_of_ble_eq_true rfl) ⟨congrArg (fun b => some (Value.int (iI (bI b)))) (by unfold slB; congr 1; apply propext; constructor <;> intro h <;> omega), rfl⟩
set_option maxRecDepth 100000 in
theorem k7_ownField {l : Launch} {θ : zTh} {N : zMap} {am : Nat} {ar : Nat → Nat} {w : mW} (hD : mDis am ar) (hw : mWF w) (t : Int) (n : Int) (r_t : inR t) (r_n : inR n) (hB : mB w) : ZF θ l yX7_ownField cX7_ownField 5 (some .int) ⟨0, 0, 0, 0⟩ [.ref (am), .int (iI (t)), .int (iI (n))] (mP θ am ar w N) (some (.int (iI (ofI w t n)))) (mP θ am ar w N) := by
  refine z_start (own := RX7) (nm := "ownField") pnX7 rfl rfl (Nat.le_of_ble_eq_true rfl) ?_
  intro κ hκ hκl C
  change Z κ (mP θ am ar w N) 0 0 0 [(0, .ref (am)), (1, .int (iI (t))), (2, .int (iI (n)))] []
  have hB' := hB; obtain ⟨hB1, hB2, hB3, hB4, hB5, hB6⟩ := hB'
  refine z_iconst C 1 dX7_ownField_0 rfl ?_
  refine z_istore_n (lv' := [(0, .ref (am)), (1, .int (iI (t))), (2, .int (iI (n))), (3, .int (iI (-1)))]) C 2 [1, 2, 3, 0] dX7_ownField_1 (by decide) rfl rfl ?_
  refine z_iconst C 3 dX7_ownField_2 rfl ?_
  refine z_istore (lv' := [(0, .ref (am)), (1, .int (iI (t))), (2, .int (iI (n))), (3, .int (iI (-1))), (4, .int (iI (0)))]) C 5 [1, 2, 3, 4, 0] dX7_ownField_3 (by decide) rfl rfl ?_
  have L5_1 : ∀ (fu : Nat) (k : Nat) (hk : (k : Int) ≤ w 11 0) (hme : (w 11 0).toNat - k < fu), Z κ (mP θ am ar w N) 0 0 5 [(0, .ref (am)), (1, .int (iI (t))), (2, .int (iI (n))), (3, .int (iI (lastN (fun j => mb w 16 j && (decide (w 13 j = t) && decide (w 14 j = n))) k))), (4, .int (iI ((k : Int))))] [] := by
    intro fu
    induction fu with
    | zero => intro k hk hme; exact absurd hme (Nat.not_lt_zero _)
    | succ fu ih2 =>
      intro k hk hme
      refine z_iload C 7 4 dX7_ownField_5 rfl rfl ?_
      refine z_aload_n C 8 0 dX7_ownField_7 rfl rfl ?_
      refine m_geti C hκ 11 11 (by decide) rfl q2006 rfl dX7_ownField_8 rfl ?_
      refine z_icmp_ge C 59 14 dX7_ownField_11 (by decide) ⟨by omega, by omega⟩ (hw.r _ _ rfl) rfl (fun c3 => ?_) (fun c3 => ?_)
      · skip
        refine z_iload_n C 60 3 dX7_ownField_59 rfl rfl ?_
        exact z_iret C dX7_ownField_60 rfl (Nat.le_of_ble_eq_true rfl) (Nat.le_of_ble_eq_true rfl) ⟨congrArg (fun z => some (Value.int (iI z))) (by have e : k = (w 11 0).toNat := (by omega); subst e; rfl), rfl⟩
      · skip
        refine z_aload_n C 15 0 dX7_ownField_14 rfl rfl ?_
        refine m_geta C hκ 18 16 (by decide) rfl q2011 rfl dX7_ownField_15 rfl ?_
        refine z_iload C 20 4 dX7_ownField_18 rfl rfl ?_
        refine m_bald (len := 100) C hκ hD hw 21 16 (by decide) rfl rfl rfl (by omega) (by omega) dX7_ownField_20 rfl ?_
        refine z_ifB_eq C 51 24 dX7_ownField_21 (by decide) rfl (fun c4 => ?_) (fun c4 => ?_)
        · skip
          have c4b : ¬ (w 16 ((k : Int)) = 1) := of_decide_eq_false c4
          refine z_iload_n C 52 3 dX7_ownField_51 rfl rfl ?_
          refine z_istore_n (lv' := [(0, .ref (am)), (1, .int (iI (t))), (2, .int (iI (n))), (3, .int (iI (lastN (fun j => mb w 16 j && (decide (w 13 j = t) && decide (w 14 j = n))) k))), (4, .int (iI ((k : Int))))]) C 53 [1, 2, 3, 0, 4] dX7_ownField_52 (by decide) rfl rfl ?_
          refine z_iinc (lv' := [(0, .ref (am)), (1, .int (iI (t))), (2, .int (iI (n))), (3, .int (iI (lastN (fun j => mb w 16 j && (decide (w 13 j = t) && decide (w 14 j = n))) k))), (4, .int (iI (((k : Int)) + 1)))]) C 56 4 [1, 2, 3, 4, 0] dX7_ownField_53 rfl (by decide) rfl rfl ?_
          refine z_goto C 5 dX7_ownField_56 (by decide) ?_
          refine z_as (lv' := [(0, .ref (am)), (1, .int (iI (t))), (2, .int (iI (n))), (3, .int (iI (lastN (fun j => mb w 16 j && (decide (w 13 j = t) && decide (w 14 j = n))) (k + 1)))), (4, .int (iI (((k + 1) : Int))))]) rfl (congrArg (fun z9 => ([(0, .ref (am)), (1, .int (iI (t))), (2, .int (iI (n))), (3, .int (iI (z9))), (4, .int (iI (((k : Int)) + 1)))] : List (Nat × Value))) (show (lastN (fun j => mb w 16 j && (decide (w 13 j = t) && decide (w 14 j = n))) k) = (lastN (fun j => mb w 16 j && (decide (w 13 j = t) && decide (w 14 j = n))) (k + 1)) from by clear C hκ hκl ih2 hme; first | (simp_all [lastN]; done) | (simp_all [lastN] <;> omega) | (grind [lastN]) | (simp [lastN] at * <;> omega))) rfl ?_
          exact ih2 (k + 1) (by omega) (by omega)
        · skip
          have c4b : (w 16 ((k : Int)) = 1) := of_decide_eq_true c4
          refine z_aload_n C 25 0 dX7_ownField_24 rfl rfl ?_
          refine m_geta C hκ 28 13 (by decide) rfl q2008 rfl dX7_ownField_25 rfl ?_
          refine z_iload C 30 4 dX7_ownField_28 rfl rfl ?_
          refine m_iald (len := 100) C hκ hD 31 13 (by decide) rfl rfl (by omega) (by omega) dX7_ownField_30 rfl ?_
          refine z_iload_n C 32 1 dX7_ownField_31 rfl rfl ?_
          refine z_icmp_ne C 51 35 dX7_ownField_32 (by decide) (hw.r _ _ rfl) r_t rfl (fun c5 => ?_) (fun c5 => ?_)
          · skip
            refine z_iload_n C 52 3 dX7_ownField_51 rfl rfl ?_
            refine z_istore_n (lv' := [(0, .ref (am)), (1, .int (iI (t))), (2, .int (iI (n))), (3, .int (iI (lastN (fun j => mb w 16 j && (decide (w 13 j = t) && decide (w 14 j = n))) k))), (4, .int (iI ((k : Int))))]) C 53 [1, 2, 3, 0, 4] dX7_ownField_52 (by decide) rfl rfl ?_
            refine z_iinc (lv' := [(0, .ref (am)), (1, .int (iI (t))), (2, .int (iI (n))), (3, .int (iI (lastN (fun j => mb w 16 j && (decide (w 13 j = t) && decide (w 14 j = n))) k))), (4, .int (iI (((k : Int)) + 1)))]) C 56 4 [1, 2, 3, 4, 0] dX7_ownField_53 rfl (by decide) rfl rfl ?_
            refine z_goto C 5 dX7_ownField_56 (by decide) ?_
            refine z_as (lv' := [(0, .ref (am)), (1, .int (iI (t))), (2, .int (iI (n))), (3, .int (iI (lastN (fun j => mb w 16 j && (decide (w 13 j = t) && decide (w 14 j = n))) (k + 1)))), (4, .int (iI (((k + 1) : Int))))]) rfl (congrArg (fun z9 => ([(0, .ref (am)), (1, .int (iI (t))), (2, .int (iI (n))), (3, .int (iI (z9))), (4, .int (iI (((k : Int)) + 1)))] : List (Nat × Value))) (show (lastN (fun j => mb w 16 j && (decide (w 13 j = t) && decide (w 14 j = n))) k) = (lastN (fun j => mb w 16 j && (decide (w 13 j = t) && decide (w 14 j = n))) (k + 1)) from by clear C hκ hκl ih2 hme; first | (simp_all [lastN]; done) | (simp_all [lastN] <;> omega) | (grind [lastN]) | (simp [lastN] at * <;> omega))) rfl ?_
            exact ih2 (k + 1) (by omega) (by omega)
          · skip
            refine z_aload_n C 36 0 dX7_ownField_35 rfl rfl ?_
            refine m_geta C hκ 39 14 (by decide) rfl q2009 rfl dX7_ownField_36 rfl ?_
            refine z_iload C 41 4 dX7_ownField_39 rfl rfl ?_
            refine m_iald (len := 100) C hκ hD 42 14 (by decide) rfl rfl (by omega) (by omega) dX7_ownField_41 rfl ?_
            refine z_iload_n C 43 2 dX7_ownField_42 rfl rfl ?_
            refine z_icmp_ne C 51 46 dX7_ownField_43 (by decide) (hw.r _ _ rfl) r_n rfl (fun c6 => ?_) (fun c6 => ?_)
            · skip
              refine z_iload_n C 52 3 dX7_ownField_51 rfl rfl ?_
              refine z_istore_n (lv' := [(0, .ref (am)), (1, .int (iI (t))), (2, .int (iI (n))), (3, .int (iI (lastN (fun j => mb w 16 j && (decide (w 13 j = t) && decide (w 14 j = n))) k))), (4, .int (iI ((k : Int))))]) C 53 [1, 2, 3, 0, 4] dX7_ownField_52 (by decide) rfl rfl ?_
              refine z_iinc (lv' := [(0, .ref (am)), (1, .int (iI (t))), (2, .int (iI (n))), (3, .int (iI (lastN (fun j => mb w 16 j && (decide (w 13 j = t) && decide (w 14 j = n))) k))), (4, .int (iI (((k : Int)) + 1)))]) C 56 4 [1, 2, 3, 4, 0] dX7_ownField_53 rfl (by decide) rfl rfl ?_
              refine z_goto C 5 dX7_ownField_56 (by decide) ?_
              refine z_as (lv' := [(0, .ref (am)), (1, .int (iI (t))), (2, .int (iI (n))), (3, .int (iI (lastN (fun j => mb w 16 j && (decide (w 13 j = t) && decide (w 14 j = n))) (k + 1)))), (4, .int (iI (((k + 1) : Int))))]) rfl (congrArg (fun z9 => ([(0, .ref (am)), (1, .int (iI (t))), (2, .int (iI (n))), (3, .int (iI (z9))), (4, .int (iI (((k : Int)) + 1)))] : List (Nat × Value))) (show (lastN (fun j => mb w 16 j && (decide (w 13 j = t) && decide (w 14 j = n))) k) = (lastN (fun j => mb w 16 j && (decide (w 13 j = t) && decide (w 14 j = n))) (k + 1)) from by clear C hκ hκl ih2 hme; first | (simp_all [lastN]; done) | (simp_all [lastN] <;> omega) | (grind [lastN]) | (simp [lastN] at * <;> omega))) rfl ?_
              exact ih2 (k + 1) (by omega) (by omega)
            · skip
              refine z_iload C 48 4 dX7_ownField_46 rfl rfl ?_
              refine z_goto C 52 dX7_ownField_48 (by decide) ?_
              refine z_istore_n (lv' := [(0, .ref (am)), (1, .int (iI (t))), (2, .int (iI (n))), (3, .int (iI ((k : Int)))), (4, .int (iI ((k : Int))))]) C 53 [1, 2, 3, 0, 4] dX7_ownField_52 (by decide) rfl rfl ?_
              refine z_iinc (lv' := [(0, .ref (am)), (1, .int (iI (t))), (2, .int (iI (n))), (3, .int (iI ((k : Int)))), (4, .int (iI (((k : Int)) + 1)))]) C 56 4 [1, 2, 3, 4, 0] dX7_ownField_53 rfl (by decide) rfl rfl ?_
              refine z_goto C 5 dX7_ownField_56 (by decide) ?_
              refine z_as (lv' := [(0, .ref (am)), (1, .int (iI (t))), (2, .int (iI (n))), (3, .int (iI (lastN (fun j => mb w 16 j && (decide (w 13 j = t) && decide (w 14 j = n))) (k + 1)))), (4, .int (iI (((k + 1) : Int))))]) rfl (congrArg (fun z9 => ([(0, .ref (am)), (1, .int (iI (t))), (2, .int (iI (n))), (3, .int (iI (z9))), (4, .int (iI (((k : Int)) + 1)))] : List (Nat × Value))) (show ((k : Int)) = (lastN (fun j => mb w 16 j && (decide (w 13 j = t) && decide (w 14 j = n))) (k + 1)) from by clear C hκ hκl ih2 hme; first | (simp_all [lastN]; done) | (simp_all [lastN] <;> omega) | (grind [lastN]) | (simp [lastN] at * <;> omega))) rfl ?_
              exact ih2 (k + 1) (by omega) (by omega)
  refine z_as (lv' := [(0, .ref (am)), (1, .int (iI (t))), (2, .int (iI (n))), (3, .int (iI (lastN (fun j => mb w 16 j && (decide (w 13 j = t) && decide (w 14 j = n))) (0)))), (4, .int (iI (((0) : Int))))]) rfl rfl rfl ?_
  exact L5_1 _ (0) (by omega) (Nat.lt_succ_self _)
set_option maxRecDepth 100000 in
theorem k7_isListed {l : Launch} {θ : zTh} {N : zMap} {am : Nat} {ar : Nat → Nat} {w : mW} (hD : mDis am ar) (hw : mWF w) (t : Int) (a : Int) (r_t : inR t) (r_a : inR a) (ht : 0 ≤ t ∧ t < 60) (hn : 0 ≤ w 10 t ∧ w 10 t ≤ 60) : ZF θ l yX7_isListed cX7_isListed 5 (some .boolean) ⟨0, 0, 0, 0⟩ [.ref (am), .int (iI (t)), .int (iI (a))] (mP θ am ar w N) (some (.int (iI (bI (lsB w t a))))) (mP θ am ar w N) := by
  refine z_start (own := RX7) (nm := "isListed") pnX7 rfl rfl (Nat.le_of_ble_eq_true rfl) ?_
  intro κ hκ hκl C
  change Z κ (mP θ am ar w N) 0 0 0 [(0, .ref (am)), (1, .int (iI (t))), (2, .int (iI (a)))] []
  refine z_iconst C 1 dX7_isListed_0 rfl ?_
  refine z_istore_n (lv' := [(0, .ref (am)), (1, .int (iI (t))), (2, .int (iI (a))), (3, .int (iI (0)))]) C 2 [1, 2, 3, 0] dX7_isListed_1 (by decide) rfl rfl ?_
  refine z_iconst C 3 dX7_isListed_2 rfl ?_
  refine z_istore (lv' := [(0, .ref (am)), (1, .int (iI (t))), (2, .int (iI (a))), (3, .int (iI (0))), (4, .int (iI (0)))]) C 5 [1, 2, 3, 4, 0] dX7_isListed_3 (by decide) rfl rfl ?_
  have L5_1 : ∀ (fu : Nat) (k : Nat) (hk : (k : Int) ≤ w 10 t) (hme : (w 10 t).toNat - k < fu), Z κ (mP θ am ar w N) 0 0 5 [(0, .ref (am)), (1, .int (iI (t))), (2, .int (iI (a))), (3, .int (iI (bI (anyN (fun j => decide (w 9 (60 * t + j) = a)) k)))), (4, .int (iI ((k : Int))))] [] := by
    intro fu
    induction fu with
    | zero => intro k hk hme; exact absurd hme (Nat.not_lt_zero _)
    | succ fu ih2 =>
      intro k hk hme
      refine z_iload C 7 4 dX7_isListed_5 rfl rfl ?_
      refine z_aload_n C 8 0 dX7_isListed_7 rfl rfl ?_
      refine m_geta C hκ 11 10 (by decide) rfl q2005 rfl dX7_isListed_8 rfl ?_
      refine z_iload_n C 12 1 dX7_isListed_11 rfl rfl ?_
      refine m_iald (len := 60) C hκ hD 13 10 (by decide) rfl rfl (by omega) (by omega) dX7_isListed_12 rfl ?_
      refine z_icmp_ge C 48 16 dX7_isListed_13 (by decide) ⟨by omega, by omega⟩ (hw.r _ _ rfl) rfl (fun c3 => ?_) (fun c3 => ?_)
      · skip
        refine z_iload_n C 49 3 dX7_isListed_48 rfl rfl ?_
        exact z_iret C dX7_isListed_49 (bI_nar _) (Nat.le_of_ble_eq_true rfl) (Nat.le_of_ble_eq_true rfl) ⟨congrArg (fun b => some (Value.int (iI (bI b)))) (by have e : k = (w 10 t).toNat := (by omega); subst e; rfl), rfl⟩
      · skip
        refine z_iload_n C 17 3 dX7_isListed_16 rfl rfl ?_
        refine z_ifB_ne C 36 20 dX7_isListed_17 (by decide) rfl (fun c4 => ?_) (fun c4 => ?_)
        · skip
          refine z_iconst C 37 dX7_isListed_36 rfl ?_
          refine z_goto C 41 dX7_isListed_37 (by decide) ?_
          refine z_istore_n (lv' := [(0, .ref (am)), (1, .int (iI (t))), (2, .int (iI (a))), (3, .int (iI (1))), (4, .int (iI ((k : Int))))]) C 42 [1, 2, 3, 0, 4] dX7_isListed_41 (by decide) rfl rfl ?_
          refine z_iinc (lv' := [(0, .ref (am)), (1, .int (iI (t))), (2, .int (iI (a))), (3, .int (iI (1))), (4, .int (iI (((k : Int)) + 1)))]) C 45 4 [1, 2, 3, 4, 0] dX7_isListed_42 rfl (by decide) rfl rfl ?_
          refine z_goto C 5 dX7_isListed_45 (by decide) ?_
          refine z_as (lv' := [(0, .ref (am)), (1, .int (iI (t))), (2, .int (iI (a))), (3, .int (iI (bI (anyN (fun j => decide (w 9 (60 * t + j) = a)) (k + 1))))), (4, .int (iI (((k + 1) : Int))))]) rfl (congrArg (fun z9 => ([(0, .ref (am)), (1, .int (iI (t))), (2, .int (iI (a))), (3, .int (iI (bI (z9)))), (4, .int (iI (((k : Int)) + 1)))] : List (Nat × Value))) (show (true) = (anyN (fun j => decide (w 9 (60 * t + j) = a)) (k + 1)) from by clear C hκ hκl ih2 hme; first | (simp_all [anyN]; done) | (simp_all [anyN] <;> omega) | (grind [anyN]) | (simp [anyN] at * <;> omega))) rfl ?_
          exact ih2 (k + 1) (by omega) (by omega)
        · skip
          refine z_aload_n C 21 0 dX7_isListed_20 rfl rfl ?_
          refine m_geta C hκ 24 9 (by decide) rfl q2004 rfl dX7_isListed_21 rfl ?_
          refine z_bipush C 26 dX7_isListed_24 (by decide) rfl ?_
          refine z_iload_n C 27 1 dX7_isListed_26 rfl rfl ?_
          refine z_imul C 28 dX7_isListed_27 rfl ?_
          refine z_iload C 30 4 dX7_isListed_28 rfl rfl ?_
          refine z_iadd C 31 dX7_isListed_30 rfl ?_
          refine m_iald (len := 3600) C hκ hD 32 9 (by decide) rfl rfl (by omega) (by omega) dX7_isListed_31 rfl ?_
          refine z_iload_n C 33 2 dX7_isListed_32 rfl rfl ?_
          refine z_icmp_ne C 40 36 dX7_isListed_33 (by decide) (hw.r _ _ rfl) r_a rfl (fun c5 => ?_) (fun c5 => ?_)
          · skip
            refine z_iconst C 41 dX7_isListed_40 rfl ?_
            refine z_istore_n (lv' := [(0, .ref (am)), (1, .int (iI (t))), (2, .int (iI (a))), (3, .int (iI (0))), (4, .int (iI ((k : Int))))]) C 42 [1, 2, 3, 0, 4] dX7_isListed_41 (by decide) rfl rfl ?_
            refine z_iinc (lv' := [(0, .ref (am)), (1, .int (iI (t))), (2, .int (iI (a))), (3, .int (iI (0))), (4, .int (iI (((k : Int)) + 1)))]) C 45 4 [1, 2, 3, 4, 0] dX7_isListed_42 rfl (by decide) rfl rfl ?_
            refine z_goto C 5 dX7_isListed_45 (by decide) ?_
            refine z_as (lv' := [(0, .ref (am)), (1, .int (iI (t))), (2, .int (iI (a))), (3, .int (iI (bI (anyN (fun j => decide (w 9 (60 * t + j) = a)) (k + 1))))), (4, .int (iI (((k + 1) : Int))))]) rfl (congrArg (fun z9 => ([(0, .ref (am)), (1, .int (iI (t))), (2, .int (iI (a))), (3, .int (iI (bI (z9)))), (4, .int (iI (((k : Int)) + 1)))] : List (Nat × Value))) (show (false) = (anyN (fun j => decide (w 9 (60 * t + j) = a)) (k + 1)) from by clear C hκ hκl ih2 hme; first | (simp_all [anyN]; done) | (simp_all [anyN] <;> omega) | (grind [anyN]) | (simp [anyN] at * <;> omega))) rfl ?_
            exact ih2 (k + 1) (by omega) (by omega)
          · skip
            refine z_iconst C 37 dX7_isListed_36 rfl ?_
            refine z_goto C 41 dX7_isListed_37 (by decide) ?_
            refine z_istore_n (lv' := [(0, .ref (am)), (1, .int (iI (t))), (2, .int (iI (a))), (3, .int (iI (1))), (4, .int (iI ((k : Int))))]) C 42 [1, 2, 3, 0, 4] dX7_isListed_41 (by decide) rfl rfl ?_
            refine z_iinc (lv' := [(0, .ref (am)), (1, .int (iI (t))), (2, .int (iI (a))), (3, .int (iI (1))), (4, .int (iI (((k : Int)) + 1)))]) C 45 4 [1, 2, 3, 4, 0] dX7_isListed_42 rfl (by decide) rfl rfl ?_
            refine z_goto C 5 dX7_isListed_45 (by decide) ?_
            refine z_as (lv' := [(0, .ref (am)), (1, .int (iI (t))), (2, .int (iI (a))), (3, .int (iI (bI (anyN (fun j => decide (w 9 (60 * t + j) = a)) (k + 1))))), (4, .int (iI (((k + 1) : Int))))]) rfl (congrArg (fun z9 => ([(0, .ref (am)), (1, .int (iI (t))), (2, .int (iI (a))), (3, .int (iI (bI (z9)))), (4, .int (iI (((k : Int)) + 1)))] : List (Nat × Value))) (show (true) = (anyN (fun j => decide (w 9 (60 * t + j) = a)) (k + 1)) from by clear C hκ hκl ih2 hme; first | (simp_all [anyN]; done) | (simp_all [anyN] <;> omega) | (grind [anyN]) | (simp [anyN] at * <;> omega))) rfl ?_
            exact ih2 (k + 1) (by omega) (by omega)
  refine z_as (lv' := [(0, .ref (am)), (1, .int (iI (t))), (2, .int (iI (a))), (3, .int (iI (bI (anyN (fun j => decide (w 9 (60 * t + j) = a)) (0))))), (4, .int (iI (((0) : Int))))]) rfl rfl rfl ?_
  exact L5_1 _ (0) (by omega) (Nat.lt_succ_self _)
set_option maxRecDepth 100000 in
theorem k7_isClosed {l : Launch} {θ : zTh} {N : zMap} {am : Nat} {ar : Nat → Nat} {w : mW} (hD : mDis am ar) (hw : mWF w) (t : Int) (r_t : inR t) (hS : mS w) (ht : 0 ≤ t ∧ t < 60) : ZF θ l yX7_isClosed cX7_isClosed 4 (some .boolean) ⟨1, 0, 0, 22⟩ [.ref (am), .int (iI (t))] (mP θ am ar w N) (some (.int (iI (bI (ccB w t))))) (mP θ am ar w N) := by
  refine z_start (own := RX7) (nm := "isClosed") pnX7 rfl rfl (Nat.le_of_ble_eq_true rfl) ?_
  intro κ hκ hκl C
  change Z κ (mP θ am ar w N) 0 0 0 [(0, .ref (am)), (1, .int (iI (t)))] []
  have hB := hS.B
  obtain ⟨hB1, hB2, hB3, hB4, hB5, hB6⟩ := hS.B
  have hC := hS.C
  refine z_iconst C 1 dX7_isClosed_0 rfl ?_
  refine z_istore_n (lv' := [(0, .ref (am)), (1, .int (iI (t))), (2, .int (iI (0)))]) C 2 [1, 2, 0] dX7_isClosed_1 (by decide) rfl rfl ?_
  refine z_iconst C 3 dX7_isClosed_2 rfl ?_
  refine z_istore_n (lv' := [(0, .ref (am)), (1, .int (iI (t))), (2, .int (iI (0))), (3, .int (iI (0)))]) C 4 [1, 2, 3, 0] dX7_isClosed_3 (by decide) rfl rfl ?_
  have L4_1 : ∀ (fu : Nat) (k : Nat) (hk : (k : Int) ≤ w 27 0) (hme : (w 27 0).toNat - k < fu), Z κ (mP θ am ar w N) 0 0 4 [(0, .ref (am)), (1, .int (iI (t))), (2, .int (iI (bI (anyN (fun j => decide (w 29 j = -1) && isa w (w 28 j) t) k)))), (3, .int (iI ((k : Int))))] [] := by
    intro fu
    induction fu with
    | zero => intro k hk hme; exact absurd hme (Nat.not_lt_zero _)
    | succ fu ih2 =>
      intro k hk hme
      refine z_iload_n C 5 3 dX7_isClosed_4 rfl rfl ?_
      refine z_aload_n C 6 0 dX7_isClosed_5 rfl rfl ?_
      refine m_geti C hκ 9 27 (by decide) rfl q2022 rfl dX7_isClosed_6 rfl ?_
      refine z_icmp_ge C 52 12 dX7_isClosed_9 (by decide) ⟨by omega, by omega⟩ (hw.r _ _ rfl) rfl (fun c3 => ?_) (fun c3 => ?_)
      · skip
        refine z_iload_n C 53 2 dX7_isClosed_52 rfl rfl ?_
        exact z_iret C dX7_isClosed_53 (bI_nar _) (Nat.le_of_ble_eq_true rfl) (Nat.le_of_ble_eq_true rfl) ⟨congrArg (fun b => some (Value.int (iI (bI b)))) (by have e : k = (w 27 0).toNat := (by omega); subst e; rfl), rfl⟩
      · skip
        refine z_iload_n C 13 2 dX7_isClosed_12 rfl rfl ?_
        refine z_ifB_ne C 40 16 dX7_isClosed_13 (by decide) rfl (fun c4 => ?_) (fun c4 => ?_)
        · skip
          refine z_iconst C 41 dX7_isClosed_40 rfl ?_
          refine z_goto C 45 dX7_isClosed_41 (by decide) ?_
          refine z_istore_n (lv' := [(0, .ref (am)), (1, .int (iI (t))), (2, .int (iI (1))), (3, .int (iI ((k : Int))))]) C 46 [1, 2, 0, 3] dX7_isClosed_45 (by decide) rfl rfl ?_
          refine z_iinc (lv' := [(0, .ref (am)), (1, .int (iI (t))), (2, .int (iI (1))), (3, .int (iI (((k : Int)) + 1)))]) C 49 3 [1, 2, 3, 0] dX7_isClosed_46 rfl (by decide) rfl rfl ?_
          refine z_goto C 4 dX7_isClosed_49 (by decide) ?_
          refine z_as (lv' := [(0, .ref (am)), (1, .int (iI (t))), (2, .int (iI (bI (anyN (fun j => decide (w 29 j = -1) && isa w (w 28 j) t) (k + 1))))), (3, .int (iI (((k + 1) : Int))))]) rfl (congrArg (fun z9 => ([(0, .ref (am)), (1, .int (iI (t))), (2, .int (iI (bI (z9)))), (3, .int (iI (((k : Int)) + 1)))] : List (Nat × Value))) (show (true) = (anyN (fun j => decide (w 29 j = -1) && isa w (w 28 j) t) (k + 1)) from by clear C hκ hκl hS hB hB1 hB2 hB3 hB4 hB5 hB6 hC hD hw ih2 hme; first | (simp_all [anyN]; done) | (simp_all [anyN] <;> omega) | (grind [anyN]) | (simp [anyN] at * <;> omega))) rfl ?_
          exact ih2 (k + 1) (by omega) (by omega)
        · skip
          refine z_aload_n C 17 0 dX7_isClosed_16 rfl rfl ?_
          refine m_geta C hκ 20 29 (by decide) rfl q2024 rfl dX7_isClosed_17 rfl ?_
          refine z_iload_n C 21 3 dX7_isClosed_20 rfl rfl ?_
          obtain ⟨f5a, f5b, f5c⟩ := hS.X (show 0 ≤ (k : Int) by omega) (by omega)
          refine m_iald (len := 80) C hκ hD 22 29 (by decide) rfl rfl (by omega) (by omega) dX7_isClosed_21 rfl ?_
          refine z_iconst C 23 dX7_isClosed_22 rfl ?_
          refine z_icmp_ne C 44 26 dX7_isClosed_23 (by decide) (hw.r _ _ rfl) ⟨by decide, by decide⟩ rfl (fun c6 => ?_) (fun c6 => ?_)
          · skip
            refine z_iconst C 45 dX7_isClosed_44 rfl ?_
            refine z_istore_n (lv' := [(0, .ref (am)), (1, .int (iI (t))), (2, .int (iI (0))), (3, .int (iI ((k : Int))))]) C 46 [1, 2, 0, 3] dX7_isClosed_45 (by decide) rfl rfl ?_
            refine z_iinc (lv' := [(0, .ref (am)), (1, .int (iI (t))), (2, .int (iI (0))), (3, .int (iI (((k : Int)) + 1)))]) C 49 3 [1, 2, 3, 0] dX7_isClosed_46 rfl (by decide) rfl rfl ?_
            refine z_goto C 4 dX7_isClosed_49 (by decide) ?_
            refine z_as (lv' := [(0, .ref (am)), (1, .int (iI (t))), (2, .int (iI (bI (anyN (fun j => decide (w 29 j = -1) && isa w (w 28 j) t) (k + 1))))), (3, .int (iI (((k + 1) : Int))))]) rfl (congrArg (fun z9 => ([(0, .ref (am)), (1, .int (iI (t))), (2, .int (iI (bI (z9)))), (3, .int (iI (((k : Int)) + 1)))] : List (Nat × Value))) (show (false) = (anyN (fun j => decide (w 29 j = -1) && isa w (w 28 j) t) (k + 1)) from by clear C hκ hκl hS hB hB1 hB2 hB3 hB4 hB5 hB6 hC hD hw ih2 hme f5a f5b f5c; first | (simp_all [anyN]; done) | (simp_all [anyN] <;> omega) | (grind [anyN]) | (simp [anyN] at * <;> omega))) rfl ?_
            exact ih2 (k + 1) (by omega) (by omega)
          · skip
            refine z_aload_n C 27 0 dX7_isClosed_26 rfl rfl ?_
            refine z_aload_n C 28 0 dX7_isClosed_27 rfl rfl ?_
            refine m_geta C hκ 31 28 (by decide) rfl q2023 rfl dX7_isClosed_28 rfl ?_
            refine z_iload_n C 32 3 dX7_isClosed_31 rfl rfl ?_
            refine m_iald (len := 80) C hκ hD 33 28 (by decide) rfl rfl (by omega) (by omega) dX7_isClosed_32 rfl ?_
            refine z_iload_n C 34 1 dX7_isClosed_33 rfl rfl ?_
            refine z_callVF (n' := 0) (k' := 0) (As := [.int (iI (w 28 ((k : Int)))), .int (iI (t))]) (rest := []) C hκ hκl 37 (k7_isOne hD hw (w 28 ((k : Int))) (t) (hw.r _ _ rfl) r_t (by omega) (by omega)) dX7_isClosed_34 q2197 q2199 qs44 q97 q2200 znX7_isOne (Nat.le_of_ble_eq_true rfl) (Nat.le_of_ble_eq_true rfl) (Nat.le_of_ble_eq_true rfl) (Nat.le_of_ble_eq_true rfl) mrec rfl rfl (Nat.le_of_ble_eq_true rfl) rfl rfl rfl ?_
            refine z_ifB_eq C 44 40 dX7_isClosed_37 (by decide) rfl (fun c7 => ?_) (fun c7 => ?_)
            · skip
              refine z_iconst C 45 dX7_isClosed_44 rfl ?_
              refine z_istore_n (lv' := [(0, .ref (am)), (1, .int (iI (t))), (2, .int (iI (0))), (3, .int (iI ((k : Int))))]) C 46 [1, 2, 0, 3] dX7_isClosed_45 (by decide) rfl rfl ?_
              refine z_iinc (lv' := [(0, .ref (am)), (1, .int (iI (t))), (2, .int (iI (0))), (3, .int (iI (((k : Int)) + 1)))]) C 49 3 [1, 2, 3, 0] dX7_isClosed_46 rfl (by decide) rfl rfl ?_
              refine z_goto C 4 dX7_isClosed_49 (by decide) ?_
              refine z_as (lv' := [(0, .ref (am)), (1, .int (iI (t))), (2, .int (iI (bI (anyN (fun j => decide (w 29 j = -1) && isa w (w 28 j) t) (k + 1))))), (3, .int (iI (((k + 1) : Int))))]) rfl (congrArg (fun z9 => ([(0, .ref (am)), (1, .int (iI (t))), (2, .int (iI (bI (z9)))), (3, .int (iI (((k : Int)) + 1)))] : List (Nat × Value))) (show (false) = (anyN (fun j => decide (w 29 j = -1) && isa w (w 28 j) t) (k + 1)) from by clear C hκ hκl hS hB hB1 hB2 hB3 hB4 hB5 hB6 hC hD hw ih2 hme f5a f5b f5c; first | (simp_all [anyN]; done) | (simp_all [anyN] <;> omega) | (grind [anyN]) | (simp [anyN] at * <;> omega))) rfl ?_
              exact ih2 (k + 1) (by omega) (by omega)
            · skip
              refine z_iconst C 41 dX7_isClosed_40 rfl ?_
              refine z_goto C 45 dX7_isClosed_41 (by decide) ?_
              refine z_istore_n (lv' := [(0, .ref (am)), (1, .int (iI (t))), (2, .int (iI (1))), (3, .int (iI ((k : Int))))]) C 46 [1, 2, 0, 3] dX7_isClosed_45 (by decide) rfl rfl ?_
              refine z_iinc (lv' := [(0, .ref (am)), (1, .int (iI (t))), (2, .int (iI (1))), (3, .int (iI (((k : Int)) + 1)))]) C 49 3 [1, 2, 3, 0] dX7_isClosed_46 rfl (by decide) rfl rfl ?_
              refine z_goto C 4 dX7_isClosed_49 (by decide) ?_
              refine z_as (lv' := [(0, .ref (am)), (1, .int (iI (t))), (2, .int (iI (bI (anyN (fun j => decide (w 29 j = -1) && isa w (w 28 j) t) (k + 1))))), (3, .int (iI (((k + 1) : Int))))]) rfl (congrArg (fun z9 => ([(0, .ref (am)), (1, .int (iI (t))), (2, .int (iI (bI (z9)))), (3, .int (iI (((k : Int)) + 1)))] : List (Nat × Value))) (show (true) = (anyN (fun j => decide (w 29 j = -1) && isa w (w 28 j) t) (k + 1)) from by clear C hκ hκl hS hB hB1 hB2 hB3 hB4 hB5 hB6 hC hD hw ih2 hme f5a f5b f5c; first | (simp_all [anyN]; done) | (simp_all [anyN] <;> omega) | (grind [anyN]) | (simp [anyN] at * <;> omega))) rfl ?_
              exact ih2 (k + 1) (by omega) (by omega)
  refine z_as (lv' := [(0, .ref (am)), (1, .int (iI (t))), (2, .int (iI (bI (anyN (fun j => decide (w 29 j = -1) && isa w (w 28 j) t) (0))))), (3, .int (iI (((0) : Int))))]) rfl rfl rfl ?_
  exact L4_1 _ (0) (by omega) (Nat.lt_succ_self _)
set_option maxRecDepth 100000 in
theorem k7_areLike {l : Launch} {θ : zTh} {N : zMap} {am : Nat} {ar : Nat → Nat} {w : mW} (hD : mDis am ar) (hw : mWF w) (m : Int) (n : Int) (r_m : inR m) (r_n : inR n) (hm : 0 ≤ m ∧ m < 100) (hn : 0 ≤ n ∧ n < 100) (hp : 0 ≤ w 18 m ∧ w 18 m ≤ 3) : ZF θ l yX7_areLike cX7_areLike 5 (some .boolean) ⟨0, 0, 0, 0⟩ [.ref (am), .int (iI (m)), .int (iI (n))] (mP θ am ar w N) (some (.int (iI (bI (likeB w m n))))) (mP θ am ar w N) := by
  refine z_start (own := RX7) (nm := "areLike") pnX7 rfl rfl (Nat.le_of_ble_eq_true rfl) ?_
  intro κ hκ hκl C
  change Z κ (mP θ am ar w N) 0 0 0 [(0, .ref (am)), (1, .int (iI (m))), (2, .int (iI (n)))] []
  have L54_1 : ∀ (fu : Nat) (k : Nat) (b : Bool) (hk : (k : Int) ≤ w 18 m) (hb : b = (decide (w 14 m = w 14 n ∧ w 17 m = w 17 n ∧ w 18 m = w 18 n) && allN (fun j => decide (w 19 (3 * m + j) = w 19 (3 * n + j))) k)) (hme : (w 18 m).toNat - k < fu), Z κ (mP θ am ar w N) 0 0 54 [(0, .ref (am)), (1, .int (iI (m))), (2, .int (iI (n))), (3, .int (iI (bI (b)))), (4, .int (iI ((k : Int))))] [] := by
    intro fu
    induction fu with
    | zero => intro k b hk hb hme; exact absurd hme (Nat.not_lt_zero _)
    | succ fu ih2 =>
      intro k b hk hb hme
      refine z_iload C 56 4 dX7_areLike_54 rfl rfl ?_
      refine z_aload_n C 57 0 dX7_areLike_56 rfl rfl ?_
      refine m_geta C hκ 60 18 (by decide) rfl q2013 rfl dX7_areLike_57 rfl ?_
      refine z_iload_n C 61 1 dX7_areLike_60 rfl rfl ?_
      refine m_iald (len := 100) C hκ hD 62 18 (by decide) rfl rfl (by omega) (by omega) dX7_areLike_61 rfl ?_
      refine z_icmp_ge C 106 65 dX7_areLike_62 (by decide) ⟨by omega, by omega⟩ (hw.r _ _ rfl) rfl (fun c3 => ?_) (fun c3 => ?_)
      · skip
        refine z_iload_n C 107 3 dX7_areLike_106 rfl rfl ?_
        exact z_iret C dX7_areLike_107 (bI_nar _) (Nat.le_of_ble_eq_true rfl) (Nat.le_of_ble_eq_true rfl) ⟨congrArg (fun b => some (Value.int (iI (bI b)))) (likeB_at hk hb (by first | exact Or.inl (by assumption) | exact Or.inr (by assumption))), rfl⟩
      · skip
        refine z_iload_n C 66 3 dX7_areLike_65 rfl rfl ?_
        refine z_ifB_eq C 106 69 dX7_areLike_66 (by decide) rfl (fun c4 => ?_) (fun c4 => ?_)
        · skip
          refine z_iload_n C 107 3 dX7_areLike_106 rfl rfl ?_
          exact z_iret C dX7_areLike_107 (bI_nar _) (Nat.le_of_ble_eq_true rfl) (Nat.le_of_ble_eq_true rfl) ⟨congrArg (fun b => some (Value.int (iI (bI b)))) (likeB_at hk hb (by first | exact Or.inl (by assumption) | exact Or.inr (by assumption))), rfl⟩
        · skip
          refine z_aload_n C 70 0 dX7_areLike_69 rfl rfl ?_
          refine m_geta C hκ 73 19 (by decide) rfl q2014 rfl dX7_areLike_70 rfl ?_
          refine z_iconst C 74 dX7_areLike_73 rfl ?_
          refine z_iload_n C 75 1 dX7_areLike_74 rfl rfl ?_
          refine z_imul C 76 dX7_areLike_75 rfl ?_
          refine z_iload C 78 4 dX7_areLike_76 rfl rfl ?_
          refine z_iadd C 79 dX7_areLike_78 rfl ?_
          refine m_iald (len := 300) C hκ hD 80 19 (by decide) rfl rfl (by omega) (by omega) dX7_areLike_79 rfl ?_
          refine z_aload_n C 81 0 dX7_areLike_80 rfl rfl ?_
          refine m_geta C hκ 84 19 (by decide) rfl q2014 rfl dX7_areLike_81 rfl ?_
          refine z_iconst C 85 dX7_areLike_84 rfl ?_
          refine z_iload_n C 86 2 dX7_areLike_85 rfl rfl ?_
          refine z_imul C 87 dX7_areLike_86 rfl ?_
          refine z_iload C 89 4 dX7_areLike_87 rfl rfl ?_
          refine z_iadd C 90 dX7_areLike_89 rfl ?_
          refine m_iald (len := 300) C hκ hD 91 19 (by decide) rfl rfl (by omega) (by omega) dX7_areLike_90 rfl ?_
          refine z_icmp_ne C 98 94 dX7_areLike_91 (by decide) (hw.r _ _ rfl) (hw.r _ _ rfl) rfl (fun c5 => ?_) (fun c5 => ?_)
          · skip
            refine z_iconst C 99 dX7_areLike_98 rfl ?_
            refine z_istore_n (lv' := [(0, .ref (am)), (1, .int (iI (m))), (2, .int (iI (n))), (3, .int (iI (0))), (4, .int (iI ((k : Int))))]) C 100 [1, 2, 3, 0, 4] dX7_areLike_99 (by decide) rfl rfl ?_
            refine z_iinc (lv' := [(0, .ref (am)), (1, .int (iI (m))), (2, .int (iI (n))), (3, .int (iI (0))), (4, .int (iI (((k : Int)) + 1)))]) C 103 4 [1, 2, 3, 4, 0] dX7_areLike_100 rfl (by decide) rfl rfl ?_
            refine z_goto C 54 dX7_areLike_103 (by decide) ?_
            refine z_as (lv' := [(0, .ref (am)), (1, .int (iI (m))), (2, .int (iI (n))), (3, .int (iI (bI ((false))))), (4, .int (iI (((k + 1) : Int))))]) rfl rfl rfl ?_
            exact ih2 (k + 1) (false) (by omega) (by clear C hκ hκl ih2 hme; first | (simp_all [allN]; done) | (simp_all [allN] <;> omega) | (grind [allN]) | (simp [allN] at * <;> omega)) (by omega)
          · skip
            refine z_iconst C 95 dX7_areLike_94 rfl ?_
            refine z_goto C 99 dX7_areLike_95 (by decide) ?_
            refine z_istore_n (lv' := [(0, .ref (am)), (1, .int (iI (m))), (2, .int (iI (n))), (3, .int (iI (1))), (4, .int (iI ((k : Int))))]) C 100 [1, 2, 3, 0, 4] dX7_areLike_99 (by decide) rfl rfl ?_
            refine z_iinc (lv' := [(0, .ref (am)), (1, .int (iI (m))), (2, .int (iI (n))), (3, .int (iI (1))), (4, .int (iI (((k : Int)) + 1)))]) C 103 4 [1, 2, 3, 4, 0] dX7_areLike_100 rfl (by decide) rfl rfl ?_
            refine z_goto C 54 dX7_areLike_103 (by decide) ?_
            refine z_as (lv' := [(0, .ref (am)), (1, .int (iI (m))), (2, .int (iI (n))), (3, .int (iI (bI ((true))))), (4, .int (iI (((k + 1) : Int))))]) rfl rfl rfl ?_
            exact ih2 (k + 1) (true) (by omega) (by clear C hκ hκl ih2 hme; first | (simp_all [allN]; done) | (simp_all [allN] <;> omega) | (grind [allN]) | (simp [allN] at * <;> omega)) (by omega)
  refine z_aload_n C 1 0 dX7_areLike_0 rfl rfl ?_
  refine m_geta C hκ 4 14 (by decide) rfl q2009 rfl dX7_areLike_1 rfl ?_
  refine z_iload_n C 5 1 dX7_areLike_4 rfl rfl ?_
  refine m_iald (len := 100) C hκ hD 6 14 (by decide) rfl rfl (by omega) (by omega) dX7_areLike_5 rfl ?_
  refine z_aload_n C 7 0 dX7_areLike_6 rfl rfl ?_
  refine m_geta C hκ 10 14 (by decide) rfl q2009 rfl dX7_areLike_7 rfl ?_
  refine z_iload_n C 11 2 dX7_areLike_10 rfl rfl ?_
  refine m_iald (len := 100) C hκ hD 12 14 (by decide) rfl rfl (by omega) (by omega) dX7_areLike_11 rfl ?_
  refine z_icmp_ne C 49 15 dX7_areLike_12 (by decide) (hw.r _ _ rfl) (hw.r _ _ rfl) rfl (fun c6 => ?_) (fun c6 => ?_)
  · skip
    refine z_iconst C 50 dX7_areLike_49 rfl ?_
    refine z_istore_n (lv' := [(0, .ref (am)), (1, .int (iI (m))), (2, .int (iI (n))), (3, .int (iI (0)))]) C 51 [1, 2, 3, 0] dX7_areLike_50 (by decide) rfl rfl ?_
    refine z_iconst C 52 dX7_areLike_51 rfl ?_
    refine z_istore (lv' := [(0, .ref (am)), (1, .int (iI (m))), (2, .int (iI (n))), (3, .int (iI (0))), (4, .int (iI (0)))]) C 54 [1, 2, 3, 4, 0] dX7_areLike_52 (by decide) rfl rfl ?_
    refine z_as (lv' := [(0, .ref (am)), (1, .int (iI (m))), (2, .int (iI (n))), (3, .int (iI (bI ((false))))), (4, .int (iI (((0) : Int))))]) rfl rfl rfl ?_
    exact L54_1 _ (0) (false) (by omega) (by clear C hκ hκl L54_1; first | (simp_all [allN]; done) | (simp_all [allN] <;> omega) | (grind [allN]) | (simp [allN] at * <;> omega)) (Nat.lt_succ_self _)
  · skip
    refine z_aload_n C 16 0 dX7_areLike_15 rfl rfl ?_
    refine m_geta C hκ 19 17 (by decide) rfl q2012 rfl dX7_areLike_16 rfl ?_
    refine z_iload_n C 20 1 dX7_areLike_19 rfl rfl ?_
    refine m_iald (len := 100) C hκ hD 21 17 (by decide) rfl rfl (by omega) (by omega) dX7_areLike_20 rfl ?_
    refine z_aload_n C 22 0 dX7_areLike_21 rfl rfl ?_
    refine m_geta C hκ 25 17 (by decide) rfl q2012 rfl dX7_areLike_22 rfl ?_
    refine z_iload_n C 26 2 dX7_areLike_25 rfl rfl ?_
    refine m_iald (len := 100) C hκ hD 27 17 (by decide) rfl rfl (by omega) (by omega) dX7_areLike_26 rfl ?_
    refine z_icmp_ne C 49 30 dX7_areLike_27 (by decide) (hw.r _ _ rfl) (hw.r _ _ rfl) rfl (fun c7 => ?_) (fun c7 => ?_)
    · skip
      refine z_iconst C 50 dX7_areLike_49 rfl ?_
      refine z_istore_n (lv' := [(0, .ref (am)), (1, .int (iI (m))), (2, .int (iI (n))), (3, .int (iI (0)))]) C 51 [1, 2, 3, 0] dX7_areLike_50 (by decide) rfl rfl ?_
      refine z_iconst C 52 dX7_areLike_51 rfl ?_
      refine z_istore (lv' := [(0, .ref (am)), (1, .int (iI (m))), (2, .int (iI (n))), (3, .int (iI (0))), (4, .int (iI (0)))]) C 54 [1, 2, 3, 4, 0] dX7_areLike_52 (by decide) rfl rfl ?_
      refine z_as (lv' := [(0, .ref (am)), (1, .int (iI (m))), (2, .int (iI (n))), (3, .int (iI (bI ((false))))), (4, .int (iI (((0) : Int))))]) rfl rfl rfl ?_
      exact L54_1 _ (0) (false) (by omega) (by clear C hκ hκl L54_1; first | (simp_all [allN]; done) | (simp_all [allN] <;> omega) | (grind [allN]) | (simp [allN] at * <;> omega)) (Nat.lt_succ_self _)
    · skip
      refine z_aload_n C 31 0 dX7_areLike_30 rfl rfl ?_
      refine m_geta C hκ 34 18 (by decide) rfl q2013 rfl dX7_areLike_31 rfl ?_
      refine z_iload_n C 35 1 dX7_areLike_34 rfl rfl ?_
      refine m_iald (len := 100) C hκ hD 36 18 (by decide) rfl rfl (by omega) (by omega) dX7_areLike_35 rfl ?_
      refine z_aload_n C 37 0 dX7_areLike_36 rfl rfl ?_
      refine m_geta C hκ 40 18 (by decide) rfl q2013 rfl dX7_areLike_37 rfl ?_
      refine z_iload_n C 41 2 dX7_areLike_40 rfl rfl ?_
      refine m_iald (len := 100) C hκ hD 42 18 (by decide) rfl rfl (by omega) (by omega) dX7_areLike_41 rfl ?_
      refine z_icmp_ne C 49 45 dX7_areLike_42 (by decide) (hw.r _ _ rfl) (hw.r _ _ rfl) rfl (fun c8 => ?_) (fun c8 => ?_)
      · skip
        refine z_iconst C 50 dX7_areLike_49 rfl ?_
        refine z_istore_n (lv' := [(0, .ref (am)), (1, .int (iI (m))), (2, .int (iI (n))), (3, .int (iI (0)))]) C 51 [1, 2, 3, 0] dX7_areLike_50 (by decide) rfl rfl ?_
        refine z_iconst C 52 dX7_areLike_51 rfl ?_
        refine z_istore (lv' := [(0, .ref (am)), (1, .int (iI (m))), (2, .int (iI (n))), (3, .int (iI (0))), (4, .int (iI (0)))]) C 54 [1, 2, 3, 4, 0] dX7_areLike_52 (by decide) rfl rfl ?_
        refine z_as (lv' := [(0, .ref (am)), (1, .int (iI (m))), (2, .int (iI (n))), (3, .int (iI (bI ((false))))), (4, .int (iI (((0) : Int))))]) rfl rfl rfl ?_
        exact L54_1 _ (0) (false) (by omega) (by clear C hκ hκl L54_1; first | (simp_all [allN]; done) | (simp_all [allN] <;> omega) | (grind [allN]) | (simp [allN] at * <;> omega)) (Nat.lt_succ_self _)
      · skip
        refine z_iconst C 46 dX7_areLike_45 rfl ?_
        refine z_goto C 50 dX7_areLike_46 (by decide) ?_
        refine z_istore_n (lv' := [(0, .ref (am)), (1, .int (iI (m))), (2, .int (iI (n))), (3, .int (iI (1)))]) C 51 [1, 2, 3, 0] dX7_areLike_50 (by decide) rfl rfl ?_
        refine z_iconst C 52 dX7_areLike_51 rfl ?_
        refine z_istore (lv' := [(0, .ref (am)), (1, .int (iI (m))), (2, .int (iI (n))), (3, .int (iI (1))), (4, .int (iI (0)))]) C 54 [1, 2, 3, 4, 0] dX7_areLike_52 (by decide) rfl rfl ?_
        refine z_as (lv' := [(0, .ref (am)), (1, .int (iI (m))), (2, .int (iI (n))), (3, .int (iI (bI ((true))))), (4, .int (iI (((0) : Int))))]) rfl rfl rfl ?_
        exact L54_1 _ (0) (true) (by omega) (by clear C hκ hκl L54_1; first | (simp_all [allN]; done) | (simp_all [allN] <;> omega) | (grind [allN]) | (simp [allN] at * <;> omega)) (Nat.lt_succ_self _)
set_option maxRecDepth 100000 in
theorem k7_ownLike {l : Launch} {θ : zTh} {N : zMap} {am : Nat} {ar : Nat → Nat} {w : mW} (hD : mDis am ar) (hw : mWF w) (t : Int) (m : Int) (r_t : inR t) (r_m : inR m) (hS : mS w) (hm : 0 ≤ m ∧ m < w 11 0) : ZF θ l yX7_ownLike cX7_ownLike 5 (some .int) ⟨1, 0, 0, 24⟩ [.ref (am), .int (iI (t)), .int (iI (m))] (mP θ am ar w N) (some (.int (iI (olI w t m)))) (mP θ am ar w N) := by
  refine z_start (own := RX7) (nm := "ownLike") pnX7 rfl rfl (Nat.le_of_ble_eq_true rfl) ?_
  intro κ hκ hκl C
  change Z κ (mP θ am ar w N) 0 0 0 [(0, .ref (am)), (1, .int (iI (t))), (2, .int (iI (m)))] []
  have hB := hS.B
  obtain ⟨hB1, hB2, hB3, hB4, hB5, hB6⟩ := hS.B
  have hC := hS.C
  refine z_iconst C 1 dX7_ownLike_0 rfl ?_
  refine z_istore_n (lv' := [(0, .ref (am)), (1, .int (iI (t))), (2, .int (iI (m))), (3, .int (iI (-1)))]) C 2 [1, 2, 3, 0] dX7_ownLike_1 (by decide) rfl rfl ?_
  refine z_iconst C 3 dX7_ownLike_2 rfl ?_
  refine z_istore (lv' := [(0, .ref (am)), (1, .int (iI (t))), (2, .int (iI (m))), (3, .int (iI (-1))), (4, .int (iI (0)))]) C 5 [1, 2, 3, 4, 0] dX7_ownLike_3 (by decide) rfl rfl ?_
  have L5_1 : ∀ (fu : Nat) (k : Nat) (hk : (k : Int) ≤ w 11 0) (hme : (w 11 0).toNat - k < fu), Z κ (mP θ am ar w N) 0 0 5 [(0, .ref (am)), (1, .int (iI (t))), (2, .int (iI (m))), (3, .int (iI (lastN (fun j => !mb w 16 j && (decide (w 13 j = t) && likeB w j m)) k))), (4, .int (iI ((k : Int))))] [] := by
    intro fu
    induction fu with
    | zero => intro k hk hme; exact absurd hme (Nat.not_lt_zero _)
    | succ fu ih2 =>
      intro k hk hme
      refine z_iload C 7 4 dX7_ownLike_5 rfl rfl ?_
      refine z_aload_n C 8 0 dX7_ownLike_7 rfl rfl ?_
      refine m_geti C hκ 11 11 (by decide) rfl q2006 rfl dX7_ownLike_8 rfl ?_
      refine z_icmp_ge C 58 14 dX7_ownLike_11 (by decide) ⟨by omega, by omega⟩ (hw.r _ _ rfl) rfl (fun c3 => ?_) (fun c3 => ?_)
      · skip
        refine z_iload_n C 59 3 dX7_ownLike_58 rfl rfl ?_
        exact z_iret C dX7_ownLike_59 rfl (Nat.le_of_ble_eq_true rfl) (Nat.le_of_ble_eq_true rfl) ⟨congrArg (fun z => some (Value.int (iI z))) (by have e : k = (w 11 0).toNat := (by omega); subst e; rfl), rfl⟩
      · skip
        refine z_aload_n C 15 0 dX7_ownLike_14 rfl rfl ?_
        refine m_geta C hκ 18 16 (by decide) rfl q2011 rfl dX7_ownLike_15 rfl ?_
        refine z_iload C 20 4 dX7_ownLike_18 rfl rfl ?_
        obtain ⟨f4a, f4b, f4c, f4d⟩ := hS.M (show 0 ≤ (k : Int) by omega) (by omega)
        refine m_bald (len := 100) C hκ hD hw 21 16 (by decide) rfl rfl rfl (by omega) (by omega) dX7_ownLike_20 rfl ?_
        refine z_ifB_ne C 50 24 dX7_ownLike_21 (by decide) rfl (fun c5 => ?_) (fun c5 => ?_)
        · skip
          have c5b : (w 16 ((k : Int)) = 1) := of_decide_eq_true c5
          refine z_iload_n C 51 3 dX7_ownLike_50 rfl rfl ?_
          refine z_istore_n (lv' := [(0, .ref (am)), (1, .int (iI (t))), (2, .int (iI (m))), (3, .int (iI (lastN (fun j => !mb w 16 j && (decide (w 13 j = t) && likeB w j m)) k))), (4, .int (iI ((k : Int))))]) C 52 [1, 2, 3, 0, 4] dX7_ownLike_51 (by decide) rfl rfl ?_
          refine z_iinc (lv' := [(0, .ref (am)), (1, .int (iI (t))), (2, .int (iI (m))), (3, .int (iI (lastN (fun j => !mb w 16 j && (decide (w 13 j = t) && likeB w j m)) k))), (4, .int (iI (((k : Int)) + 1)))]) C 55 4 [1, 2, 3, 4, 0] dX7_ownLike_52 rfl (by decide) rfl rfl ?_
          refine z_goto C 5 dX7_ownLike_55 (by decide) ?_
          refine z_as (lv' := [(0, .ref (am)), (1, .int (iI (t))), (2, .int (iI (m))), (3, .int (iI (lastN (fun j => !mb w 16 j && (decide (w 13 j = t) && likeB w j m)) (k + 1)))), (4, .int (iI (((k + 1) : Int))))]) rfl (congrArg (fun z9 => ([(0, .ref (am)), (1, .int (iI (t))), (2, .int (iI (m))), (3, .int (iI (z9))), (4, .int (iI (((k : Int)) + 1)))] : List (Nat × Value))) (show (lastN (fun j => !mb w 16 j && (decide (w 13 j = t) && likeB w j m)) k) = (lastN (fun j => !mb w 16 j && (decide (w 13 j = t) && likeB w j m)) (k + 1)) from by clear C hκ hκl hS hB hB1 hB2 hB3 hB4 hB5 hB6 hC hD hw ih2 hme f4a f4b f4c f4d; first | (simp_all [lastN]; done) | (simp_all [lastN] <;> omega) | (grind [lastN]) | (simp [lastN] at * <;> omega))) rfl ?_
          exact ih2 (k + 1) (by omega) (by omega)
        · skip
          have c5b : ¬ (w 16 ((k : Int)) = 1) := of_decide_eq_false c5
          refine z_aload_n C 25 0 dX7_ownLike_24 rfl rfl ?_
          refine m_geta C hκ 28 13 (by decide) rfl q2008 rfl dX7_ownLike_25 rfl ?_
          refine z_iload C 30 4 dX7_ownLike_28 rfl rfl ?_
          refine m_iald (len := 100) C hκ hD 31 13 (by decide) rfl rfl (by omega) (by omega) dX7_ownLike_30 rfl ?_
          refine z_iload_n C 32 1 dX7_ownLike_31 rfl rfl ?_
          refine z_icmp_ne C 50 35 dX7_ownLike_32 (by decide) (hw.r _ _ rfl) r_t rfl (fun c6 => ?_) (fun c6 => ?_)
          · skip
            refine z_iload_n C 51 3 dX7_ownLike_50 rfl rfl ?_
            refine z_istore_n (lv' := [(0, .ref (am)), (1, .int (iI (t))), (2, .int (iI (m))), (3, .int (iI (lastN (fun j => !mb w 16 j && (decide (w 13 j = t) && likeB w j m)) k))), (4, .int (iI ((k : Int))))]) C 52 [1, 2, 3, 0, 4] dX7_ownLike_51 (by decide) rfl rfl ?_
            refine z_iinc (lv' := [(0, .ref (am)), (1, .int (iI (t))), (2, .int (iI (m))), (3, .int (iI (lastN (fun j => !mb w 16 j && (decide (w 13 j = t) && likeB w j m)) k))), (4, .int (iI (((k : Int)) + 1)))]) C 55 4 [1, 2, 3, 4, 0] dX7_ownLike_52 rfl (by decide) rfl rfl ?_
            refine z_goto C 5 dX7_ownLike_55 (by decide) ?_
            refine z_as (lv' := [(0, .ref (am)), (1, .int (iI (t))), (2, .int (iI (m))), (3, .int (iI (lastN (fun j => !mb w 16 j && (decide (w 13 j = t) && likeB w j m)) (k + 1)))), (4, .int (iI (((k + 1) : Int))))]) rfl (congrArg (fun z9 => ([(0, .ref (am)), (1, .int (iI (t))), (2, .int (iI (m))), (3, .int (iI (z9))), (4, .int (iI (((k : Int)) + 1)))] : List (Nat × Value))) (show (lastN (fun j => !mb w 16 j && (decide (w 13 j = t) && likeB w j m)) k) = (lastN (fun j => !mb w 16 j && (decide (w 13 j = t) && likeB w j m)) (k + 1)) from by clear C hκ hκl hS hB hB1 hB2 hB3 hB4 hB5 hB6 hC hD hw ih2 hme f4a f4b f4c f4d; first | (simp_all [lastN]; done) | (simp_all [lastN] <;> omega) | (grind [lastN]) | (simp [lastN] at * <;> omega))) rfl ?_
            exact ih2 (k + 1) (by omega) (by omega)
          · skip
            refine z_aload_n C 36 0 dX7_ownLike_35 rfl rfl ?_
            refine z_iload C 38 4 dX7_ownLike_36 rfl rfl ?_
            refine z_iload_n C 39 2 dX7_ownLike_38 rfl rfl ?_
            refine z_callVF (n' := 0) (k' := 0) (As := [.int (iI ((k : Int))), .int (iI (m))]) (rest := []) C hκ hκl 42 (k7_areLike hD hw ((k : Int)) (m) ⟨by omega, by omega⟩ r_m (by omega) (by omega) (by omega)) dX7_ownLike_39 q2267 q2269 qs52 q97 q2270 znX7_areLike (Nat.le_of_ble_eq_true rfl) (Nat.le_of_ble_eq_true rfl) (Nat.le_of_ble_eq_true rfl) (Nat.le_of_ble_eq_true rfl) mrec rfl rfl (Nat.le_of_ble_eq_true rfl) rfl rfl rfl ?_
            refine z_ifB_eq C 50 45 dX7_ownLike_42 (by decide) rfl (fun c7 => ?_) (fun c7 => ?_)
            · skip
              refine z_iload_n C 51 3 dX7_ownLike_50 rfl rfl ?_
              refine z_istore_n (lv' := [(0, .ref (am)), (1, .int (iI (t))), (2, .int (iI (m))), (3, .int (iI (lastN (fun j => !mb w 16 j && (decide (w 13 j = t) && likeB w j m)) k))), (4, .int (iI ((k : Int))))]) C 52 [1, 2, 3, 0, 4] dX7_ownLike_51 (by decide) rfl rfl ?_
              refine z_iinc (lv' := [(0, .ref (am)), (1, .int (iI (t))), (2, .int (iI (m))), (3, .int (iI (lastN (fun j => !mb w 16 j && (decide (w 13 j = t) && likeB w j m)) k))), (4, .int (iI (((k : Int)) + 1)))]) C 55 4 [1, 2, 3, 4, 0] dX7_ownLike_52 rfl (by decide) rfl rfl ?_
              refine z_goto C 5 dX7_ownLike_55 (by decide) ?_
              refine z_as (lv' := [(0, .ref (am)), (1, .int (iI (t))), (2, .int (iI (m))), (3, .int (iI (lastN (fun j => !mb w 16 j && (decide (w 13 j = t) && likeB w j m)) (k + 1)))), (4, .int (iI (((k + 1) : Int))))]) rfl (congrArg (fun z9 => ([(0, .ref (am)), (1, .int (iI (t))), (2, .int (iI (m))), (3, .int (iI (z9))), (4, .int (iI (((k : Int)) + 1)))] : List (Nat × Value))) (show (lastN (fun j => !mb w 16 j && (decide (w 13 j = t) && likeB w j m)) k) = (lastN (fun j => !mb w 16 j && (decide (w 13 j = t) && likeB w j m)) (k + 1)) from by clear C hκ hκl hS hB hB1 hB2 hB3 hB4 hB5 hB6 hC hD hw ih2 hme f4a f4b f4c f4d; first | (simp_all [lastN]; done) | (simp_all [lastN] <;> omega) | (grind [lastN]) | (simp [lastN] at * <;> omega))) rfl ?_
              exact ih2 (k + 1) (by omega) (by omega)
            · skip
              refine z_iload C 47 4 dX7_ownLike_45 rfl rfl ?_
              refine z_goto C 51 dX7_ownLike_47 (by decide) ?_
              refine z_istore_n (lv' := [(0, .ref (am)), (1, .int (iI (t))), (2, .int (iI (m))), (3, .int (iI ((k : Int)))), (4, .int (iI ((k : Int))))]) C 52 [1, 2, 3, 0, 4] dX7_ownLike_51 (by decide) rfl rfl ?_
              refine z_iinc (lv' := [(0, .ref (am)), (1, .int (iI (t))), (2, .int (iI (m))), (3, .int (iI ((k : Int)))), (4, .int (iI (((k : Int)) + 1)))]) C 55 4 [1, 2, 3, 4, 0] dX7_ownLike_52 rfl (by decide) rfl rfl ?_
              refine z_goto C 5 dX7_ownLike_55 (by decide) ?_
              refine z_as (lv' := [(0, .ref (am)), (1, .int (iI (t))), (2, .int (iI (m))), (3, .int (iI (lastN (fun j => !mb w 16 j && (decide (w 13 j = t) && likeB w j m)) (k + 1)))), (4, .int (iI (((k + 1) : Int))))]) rfl (congrArg (fun z9 => ([(0, .ref (am)), (1, .int (iI (t))), (2, .int (iI (m))), (3, .int (iI (z9))), (4, .int (iI (((k : Int)) + 1)))] : List (Nat × Value))) (show ((k : Int)) = (lastN (fun j => !mb w 16 j && (decide (w 13 j = t) && likeB w j m)) (k + 1)) from by clear C hκ hκl hS hB hB1 hB2 hB3 hB4 hB5 hB6 hC hD hw ih2 hme f4a f4b f4c f4d; first | (simp_all [lastN]; done) | (simp_all [lastN] <;> omega) | (grind [lastN]) | (simp [lastN] at * <;> omega))) rfl ?_
              exact ih2 (k + 1) (by omega) (by omega)
  refine z_as (lv' := [(0, .ref (am)), (1, .int (iI (t))), (2, .int (iI (m))), (3, .int (iI (lastN (fun j => !mb w 16 j && (decide (w 13 j = t) && likeB w j m)) (0)))), (4, .int (iI (((0) : Int))))]) rfl rfl rfl ?_
  exact L5_1 _ (0) (by omega) (Nat.lt_succ_self _)
set_option maxRecDepth 100000 in
theorem k7_overridesIt {l : Launch} {θ : zTh} {N : zMap} {am : Nat} {ar : Nat → Nat} {w : mW} (hD : mDis am ar) (hw : mWF w) (m : Int) (n : Int) (r_m : inR m) (r_n : inR n) (hS : mS w) (hm : 0 ≤ m ∧ m < w 11 0) (hn : 0 ≤ n ∧ n < w 11 0) : ZF θ l yX7_overridesIt cX7_overridesIt 5 (some .boolean) ⟨2, 0, 0, 42⟩ [.ref (am), .int (iI (m)), .int (iI (n))] (mP θ am ar w N) (some (.int (iI (bI (ovB w m n))))) (mP θ am ar w N) := by
  refine z_start (own := RX7) (nm := "overridesIt") pnX7 rfl rfl (Nat.le_of_ble_eq_true rfl) ?_
  intro κ hκ hκl C
  change Z κ (mP θ am ar w N) 0 0 0 [(0, .ref (am)), (1, .int (iI (m))), (2, .int (iI (n)))] []
  have hB := hS.B
  obtain ⟨hB1, hB2, hB3, hB4, hB5, hB6⟩ := hS.B
  have hC := hS.C
  obtain ⟨f1a, f1b, f1c, f1d⟩ := hS.M (show 0 ≤ m by omega) (by omega)
  obtain ⟨f2a, f2b, f2c, f2d⟩ := hS.M (show 0 ≤ n by omega) (by omega)
  refine z_aload_n C 1 0 dX7_overridesIt_0 rfl rfl ?_
  refine z_iload_n C 2 1 dX7_overridesIt_1 rfl rfl ?_
  refine z_iload_n C 3 2 dX7_overridesIt_2 rfl rfl ?_
  refine z_callVF (n' := 0) (k' := 0) (As := [.int (iI (m)), .int (iI (n))]) (rest := []) C hκ hκl 6 (k7_areLike hD hw (m) (n) r_m r_n (by omega) (by omega) (by omega)) dX7_overridesIt_3 q2267 q2269 qs52 q97 q2270 znX7_areLike (Nat.le_of_ble_eq_true rfl) (Nat.le_of_ble_eq_true rfl) (Nat.le_of_ble_eq_true rfl) (Nat.le_of_ble_eq_true rfl) mrec rfl rfl (Nat.le_of_ble_eq_true rfl) rfl rfl rfl ?_
  refine z_ifB_eq C 43 9 dX7_overridesIt_6 (by decide) rfl (fun c3 => ?_) (fun c3 => ?_)
  · skip
    refine z_iconst C 44 dX7_overridesIt_43 rfl ?_
    refine z_as (st' := [.int (iI (bI (false)))]) rfl rfl rfl ?_
    exact z_iret C dX7_overridesIt_44 (bI_nar _) (Nat.le_of_ble_eq_true rfl) (Nat.le_of_ble_eq_true rfl) ⟨congrArg (fun b => some (Value.int (iI (bI b)))) (by clear C hκ hκl hS hB hB1 hB2 hB3 hB4 hB5 hB6 hC hD hw f1a f1b f1c f1d f2a f2b f2c f2d; first | (simp_all [ovB]; done) | (simp_all [ovB] <;> omega) | (grind [ovB]) | (simp [ovB] at * <;> omega)), rfl⟩
  · skip
    refine z_aload_n C 10 0 dX7_overridesIt_9 rfl rfl ?_
    refine z_iload_n C 11 1 dX7_overridesIt_10 rfl rfl ?_
    refine z_iconst C 12 dX7_overridesIt_11 rfl ?_
    refine z_callVF (n' := 0) (k' := 0) (As := [.int (iI (m)), .int (iI (4))]) (rest := []) C hκ hκl 15 (k7_has hD hw (m) (4) r_m ⟨by decide, by decide⟩ (by omega)) dX7_overridesIt_12 q2271 q2273 qs53 q97 q2274 znX7_has (Nat.le_of_ble_eq_true rfl) (Nat.le_of_ble_eq_true rfl) (Nat.le_of_ble_eq_true rfl) (Nat.le_of_ble_eq_true rfl) mrec rfl rfl (Nat.le_of_ble_eq_true rfl) rfl rfl rfl ?_
    refine z_ifB_ne C 43 18 dX7_overridesIt_15 (by decide) rfl (fun c4 => ?_) (fun c4 => ?_)
    · skip
      refine z_iconst C 44 dX7_overridesIt_43 rfl ?_
      refine z_as (st' := [.int (iI (bI (false)))]) rfl rfl rfl ?_
      exact z_iret C dX7_overridesIt_44 (bI_nar _) (Nat.le_of_ble_eq_true rfl) (Nat.le_of_ble_eq_true rfl) ⟨congrArg (fun b => some (Value.int (iI (bI b)))) (by clear C hκ hκl hS hB hB1 hB2 hB3 hB4 hB5 hB6 hC hD hw f1a f1b f1c f1d f2a f2b f2c f2d; first | (simp_all [ovB]; done) | (simp_all [ovB] <;> omega) | (grind [ovB]) | (simp [ovB] at * <;> omega)), rfl⟩
    · skip
      refine z_aload_n C 19 0 dX7_overridesIt_18 rfl rfl ?_
      refine z_iload_n C 20 2 dX7_overridesIt_19 rfl rfl ?_
      refine z_iconst C 21 dX7_overridesIt_20 rfl ?_
      refine z_callVF (n' := 0) (k' := 0) (As := [.int (iI (n)), .int (iI (4))]) (rest := []) C hκ hκl 24 (k7_has hD hw (n) (4) r_n ⟨by decide, by decide⟩ (by omega)) dX7_overridesIt_21 q2271 q2273 qs53 q97 q2274 znX7_has (Nat.le_of_ble_eq_true rfl) (Nat.le_of_ble_eq_true rfl) (Nat.le_of_ble_eq_true rfl) (Nat.le_of_ble_eq_true rfl) mrec rfl rfl (Nat.le_of_ble_eq_true rfl) rfl rfl rfl ?_
      refine z_ifB_ne C 43 27 dX7_overridesIt_24 (by decide) rfl (fun c5 => ?_) (fun c5 => ?_)
      · skip
        refine z_iconst C 44 dX7_overridesIt_43 rfl ?_
        refine z_as (st' := [.int (iI (bI (false)))]) rfl rfl rfl ?_
        exact z_iret C dX7_overridesIt_44 (bI_nar _) (Nat.le_of_ble_eq_true rfl) (Nat.le_of_ble_eq_true rfl) ⟨congrArg (fun b => some (Value.int (iI (bI b)))) (by clear C hκ hκl hS hB hB1 hB2 hB3 hB4 hB5 hB6 hC hD hw f1a f1b f1c f1d f2a f2b f2c f2d; first | (simp_all [ovB]; done) | (simp_all [ovB] <;> omega) | (grind [ovB]) | (simp [ovB] at * <;> omega)), rfl⟩
      · skip
        refine z_aload_n C 28 0 dX7_overridesIt_27 rfl rfl ?_
        refine z_iload_n C 29 1 dX7_overridesIt_28 rfl rfl ?_
        refine z_callVF (n' := 0) (k' := 0) (As := [.int (iI (m))]) (rest := []) C hκ hκl 32 (k7_isPrivate hD hw (m) r_m (by omega)) dX7_overridesIt_29 q2275 q2277 qs54 q97 q2278 znX7_isPrivate (Nat.le_of_ble_eq_true rfl) (Nat.le_of_ble_eq_true rfl) (Nat.le_of_ble_eq_true rfl) (Nat.le_of_ble_eq_true rfl) mrec rfl rfl (Nat.le_of_ble_eq_true rfl) rfl rfl rfl ?_
        refine z_ifB_ne C 43 35 dX7_overridesIt_32 (by decide) rfl (fun c6 => ?_) (fun c6 => ?_)
        · skip
          have c6b : (whoI w (m) = 2) := of_decide_eq_true c6
          refine z_iconst C 44 dX7_overridesIt_43 rfl ?_
          refine z_as (st' := [.int (iI (bI (false)))]) rfl rfl rfl ?_
          exact z_iret C dX7_overridesIt_44 (bI_nar _) (Nat.le_of_ble_eq_true rfl) (Nat.le_of_ble_eq_true rfl) ⟨congrArg (fun b => some (Value.int (iI (bI b)))) (by clear C hκ hκl hS hB hB1 hB2 hB3 hB4 hB5 hB6 hC hD hw f1a f1b f1c f1d f2a f2b f2c f2d; first | (simp_all [ovB]; done) | (simp_all [ovB] <;> omega) | (grind [ovB]) | (simp [ovB] at * <;> omega)), rfl⟩
        · skip
          have c6b : ¬ (whoI w (m) = 2) := of_decide_eq_false c6
          refine z_aload_n C 36 0 dX7_overridesIt_35 rfl rfl ?_
          refine z_iload_n C 37 2 dX7_overridesIt_36 rfl rfl ?_
          refine z_callVF (n' := 0) (k' := 0) (As := [.int (iI (n))]) (rest := []) C hκ hκl 40 (k7_isPrivate hD hw (n) r_n (by omega)) dX7_overridesIt_37 q2275 q2277 qs54 q97 q2278 znX7_isPrivate (Nat.le_of_ble_eq_true rfl) (Nat.le_of_ble_eq_true rfl) (Nat.le_of_ble_eq_true rfl) (Nat.le_of_ble_eq_true rfl) mrec rfl rfl (Nat.le_of_ble_eq_true rfl) rfl rfl rfl ?_
          refine z_ifB_eq C 45 43 dX7_overridesIt_40 (by decide) rfl (fun c7 => ?_) (fun c7 => ?_)
          · skip
            have c7b : ¬ (whoI w (n) = 2) := of_decide_eq_false c7
            refine z_aload_n C 46 0 dX7_overridesIt_45 rfl rfl ?_
            refine m_geta C hκ 49 13 (by decide) rfl q2008 rfl dX7_overridesIt_46 rfl ?_
            refine z_iload_n C 50 1 dX7_overridesIt_49 rfl rfl ?_
            refine m_iald (len := 100) C hκ hD 51 13 (by decide) rfl rfl (by omega) (by omega) dX7_overridesIt_50 rfl ?_
            refine z_istore_n (lv' := [(0, .ref (am)), (1, .int (iI (m))), (2, .int (iI (n))), (3, .int (iI (w 13 (m))))]) C 52 [1, 2, 3, 0] dX7_overridesIt_51 (by decide) rfl rfl ?_
            refine z_aload_n C 53 0 dX7_overridesIt_52 rfl rfl ?_
            refine m_geta C hκ 56 13 (by decide) rfl q2008 rfl dX7_overridesIt_53 rfl ?_
            refine z_iload_n C 57 2 dX7_overridesIt_56 rfl rfl ?_
            refine m_iald (len := 100) C hκ hD 58 13 (by decide) rfl rfl (by omega) (by omega) dX7_overridesIt_57 rfl ?_
            refine z_istore (lv' := [(0, .ref (am)), (1, .int (iI (m))), (2, .int (iI (n))), (3, .int (iI (w 13 (m)))), (4, .int (iI (w 13 (n))))]) C 60 [1, 2, 3, 4, 0] dX7_overridesIt_58 (by decide) rfl rfl ?_
            refine z_iload_n C 61 3 dX7_overridesIt_60 rfl rfl ?_
            refine z_iload C 63 4 dX7_overridesIt_61 rfl rfl ?_
            refine z_icmp_eq C 114 66 dX7_overridesIt_63 (by decide) (hw.r _ _ rfl) (hw.r _ _ rfl) rfl (fun c8 => ?_) (fun c8 => ?_)
            · skip
              refine z_iconst C 115 dX7_overridesIt_114 rfl ?_
              refine z_as (st' := [.int (iI (bI (false)))]) rfl rfl rfl ?_
              exact z_iret C dX7_overridesIt_115 (bI_nar _) (Nat.le_of_ble_eq_true rfl) (Nat.le_of_ble_eq_true rfl) ⟨congrArg (fun b => some (Value.int (iI (bI b)))) (by clear C hκ hκl hS hB hB1 hB2 hB3 hB4 hB5 hB6 hC hD hw f1a f1b f1c f1d f2a f2b f2c f2d; first | (simp_all [ovB]; done) | (simp_all [ovB] <;> omega) | (grind [ovB]) | (simp [ovB] at * <;> omega)), rfl⟩
            · skip
              refine z_aload_n C 67 0 dX7_overridesIt_66 rfl rfl ?_
              refine z_iload_n C 68 3 dX7_overridesIt_67 rfl rfl ?_
              refine z_iload C 70 4 dX7_overridesIt_68 rfl rfl ?_
              refine z_callVF (n' := 0) (k' := 0) (As := [.int (iI (w 13 (m))), .int (iI (w 13 (n)))]) (rest := []) C hκ hκl 73 (k7_isOne hD hw (w 13 (m)) (w 13 (n)) (hw.r _ _ rfl) (hw.r _ _ rfl) (by omega) (by omega)) dX7_overridesIt_70 q2197 q2199 qs44 q97 q2200 znX7_isOne (Nat.le_of_ble_eq_true rfl) (Nat.le_of_ble_eq_true rfl) (Nat.le_of_ble_eq_true rfl) (Nat.le_of_ble_eq_true rfl) mrec rfl rfl (Nat.le_of_ble_eq_true rfl) rfl rfl rfl ?_
              refine z_ifB_eq C 114 76 dX7_overridesIt_73 (by decide) rfl (fun c9 => ?_) (fun c9 => ?_)
              · skip
                refine z_iconst C 115 dX7_overridesIt_114 rfl ?_
                refine z_as (st' := [.int (iI (bI (false)))]) rfl rfl rfl ?_
                exact z_iret C dX7_overridesIt_115 (bI_nar _) (Nat.le_of_ble_eq_true rfl) (Nat.le_of_ble_eq_true rfl) ⟨congrArg (fun b => some (Value.int (iI (bI b)))) (by clear C hκ hκl hS hB hB1 hB2 hB3 hB4 hB5 hB6 hC hD hw f1a f1b f1c f1d f2a f2b f2c f2d; first | (simp_all [ovB]; done) | (simp_all [ovB] <;> omega) | (grind [ovB]) | (simp [ovB] at * <;> omega)), rfl⟩
              · skip
                refine z_aload_n C 77 0 dX7_overridesIt_76 rfl rfl ?_
                refine z_iload_n C 78 2 dX7_overridesIt_77 rfl rfl ?_
                refine z_callVF (n' := 0) (k' := 0) (As := [.int (iI (n))]) (rest := []) C hκ hκl 81 (k7_who hD hw (n) r_n (by omega)) dX7_overridesIt_78 q2279 q2281 qs55 q97 q2282 znX7_who (Nat.le_of_ble_eq_true rfl) (Nat.le_of_ble_eq_true rfl) (Nat.le_of_ble_eq_true rfl) (Nat.le_of_ble_eq_true rfl) mrec rfl rfl (Nat.le_of_ble_eq_true rfl) rfl rfl rfl ?_
                refine z_iconst C 82 dX7_overridesIt_81 rfl ?_
                refine z_icmp_eq C 110 85 dX7_overridesIt_82 (by decide) (inR_zand _ _) ⟨by decide, by decide⟩ rfl (fun c10 => ?_) (fun c10 => ?_)
                · skip
                  refine z_iconst C 111 dX7_overridesIt_110 rfl ?_
                  refine z_goto C 115 dX7_overridesIt_111 (by decide) ?_
                  refine z_as (st' := [.int (iI (bI (true)))]) rfl rfl rfl ?_
                  exact z_iret C dX7_overridesIt_115 (bI_nar _) (Nat.le_of_ble_eq_true rfl) (Nat.le_of_ble_eq_true rfl) ⟨congrArg (fun b => some (Value.int (iI (bI b)))) (by clear C hκ hκl hS hB hB1 hB2 hB3 hB4 hB5 hB6 hC hD hw f1a f1b f1c f1d f2a f2b f2c f2d; first | (simp_all [ovB]; done) | (simp_all [ovB] <;> omega) | (grind [ovB]) | (simp [ovB] at * <;> omega)), rfl⟩
                · skip
                  refine z_aload_n C 86 0 dX7_overridesIt_85 rfl rfl ?_
                  refine z_iload_n C 87 2 dX7_overridesIt_86 rfl rfl ?_
                  refine z_callVF (n' := 0) (k' := 0) (As := [.int (iI (n))]) (rest := []) C hκ hκl 90 (k7_who hD hw (n) r_n (by omega)) dX7_overridesIt_87 q2279 q2281 qs55 q97 q2282 znX7_who (Nat.le_of_ble_eq_true rfl) (Nat.le_of_ble_eq_true rfl) (Nat.le_of_ble_eq_true rfl) (Nat.le_of_ble_eq_true rfl) mrec rfl rfl (Nat.le_of_ble_eq_true rfl) rfl rfl rfl ?_
                  refine z_iconst C 91 dX7_overridesIt_90 rfl ?_
                  refine z_icmp_eq C 110 94 dX7_overridesIt_91 (by decide) (inR_zand _ _) ⟨by decide, by decide⟩ rfl (fun c11 => ?_) (fun c11 => ?_)
                  · skip
                    refine z_iconst C 111 dX7_overridesIt_110 rfl ?_
                    refine z_goto C 115 dX7_overridesIt_111 (by decide) ?_
                    refine z_as (st' := [.int (iI (bI (true)))]) rfl rfl rfl ?_
                    exact z_iret C dX7_overridesIt_115 (bI_nar _) (Nat.le_of_ble_eq_true rfl) (Nat.le_of_ble_eq_true rfl) ⟨congrArg (fun b => some (Value.int (iI (bI b)))) (by clear C hκ hκl hS hB hB1 hB2 hB3 hB4 hB5 hB6 hC hD hw f1a f1b f1c f1d f2a f2b f2c f2d; first | (simp_all [ovB]; done) | (simp_all [ovB] <;> omega) | (grind [ovB]) | (simp [ovB] at * <;> omega)), rfl⟩
                  · skip
                    refine z_aload_n C 95 0 dX7_overridesIt_94 rfl rfl ?_
                    refine m_geta C hκ 98 3 (by decide) rfl q1998 rfl dX7_overridesIt_95 rfl ?_
                    refine z_iload_n C 99 3 dX7_overridesIt_98 rfl rfl ?_
                    obtain ⟨f12a, f12b, f12c, f12d, f12e, f12f, f12g, f12h⟩ := hS.T (show 0 ≤ w 13 (m) by omega) (by omega)
                    refine m_iald (len := 60) C hκ hD 100 3 (by decide) rfl rfl (by omega) (by omega) dX7_overridesIt_99 rfl ?_
                    refine z_aload_n C 101 0 dX7_overridesIt_100 rfl rfl ?_
                    refine m_geta C hκ 104 3 (by decide) rfl q1998 rfl dX7_overridesIt_101 rfl ?_
                    refine z_iload C 106 4 dX7_overridesIt_104 rfl rfl ?_
                    obtain ⟨f13a, f13b, f13c, f13d, f13e, f13f, f13g, f13h⟩ := hS.T (show 0 ≤ w 13 (n) by omega) (by omega)
                    refine m_iald (len := 60) C hκ hD 107 3 (by decide) rfl rfl (by omega) (by omega) dX7_overridesIt_106 rfl ?_
                    refine z_icmp_ne C 114 110 dX7_overridesIt_107 (by decide) (hw.r _ _ rfl) (hw.r _ _ rfl) rfl (fun c14 => ?_) (fun c14 => ?_)
                    · skip
                      refine z_iconst C 115 dX7_overridesIt_114 rfl ?_
                      refine z_as (st' := [.int (iI (bI (false)))]) rfl rfl rfl ?_
                      exact z_iret C dX7_overridesIt_115 (bI_nar _) (Nat.le_of_ble_eq_true rfl) (Nat.le_of_ble_eq_true rfl) ⟨congrArg (fun b => some (Value.int (iI (bI b)))) (by clear C hκ hκl hS hB hB1 hB2 hB3 hB4 hB5 hB6 hC hD hw f1a f1b f1c f1d f2a f2b f2c f2d f12a f12b f12c f12d f12e f12f f12g f12h f13a f13b f13c f13d f13e f13f f13g f13h; first | (simp_all [ovB]; done) | (simp_all [ovB] <;> omega) | (grind [ovB]) | (simp [ovB] at * <;> omega)), rfl⟩
                    · skip
                      refine z_iconst C 111 dX7_overridesIt_110 rfl ?_
                      refine z_goto C 115 dX7_overridesIt_111 (by decide) ?_
                      refine z_as (st' := [.int (iI (bI (true)))]) rfl rfl rfl ?_
                      exact z_iret C dX7_overridesIt_115 (bI_nar _) (Nat.le_of_ble_eq_true rfl) (Nat.le_of_ble_eq_true rfl) ⟨congrArg (fun b => some (Value.int (iI (bI b)))) (by clear C hκ hκl hS hB hB1 hB2 hB3 hB4 hB5 hB6 hC hD hw f1a f1b f1c f1d f2a f2b f2c f2d f12a f12b f12c f12d f12e f12f f12g f12h f13a f13b f13c f13d f13e f13f f13g f13h; first | (simp_all [ovB]; done) | (simp_all [ovB] <;> omega) | (grind [ovB]) | (simp [ovB] at * <;> omega)), rfl⟩
          · skip
            have c7b : (whoI w (n) = 2) := of_decide_eq_true c7
            refine z_iconst C 44 dX7_overridesIt_43 rfl ?_
            refine z_as (st' := [.int (iI (bI (false)))]) rfl rfl rfl ?_
            exact z_iret C dX7_overridesIt_44 (bI_nar _) (Nat.le_of_ble_eq_true rfl) (Nat.le_of_ble_eq_true rfl) ⟨congrArg (fun b => some (Value.int (iI (bI b)))) (by clear C hκ hκl hS hB hB1 hB2 hB3 hB4 hB5 hB6 hC hD hw f1a f1b f1c f1d f2a f2b f2c f2d; first | (simp_all [ovB]; done) | (simp_all [ovB] <;> omega) | (grind [ovB]) | (simp [ovB] at * <;> omega)), rfl⟩
set_option maxRecDepth 100000 in
theorem k7_mayCaller {l : Launch} {θ : zTh} {N : zMap} {am : Nat} {ar : Nat → Nat} {w : mW} (hD : mDis am ar) (hw : mWF w) (m : Int) (x : Int) (r_m : inR m) (r_x : inR x) (hS : mS w) (hm : 0 ≤ m ∧ m < w 11 0) (hx : -1 ≤ x ∧ x < w 27 0) : ZF θ l yX7_mayCaller cX7_mayCaller 4 (some .boolean) ⟨1, 0, 0, 22⟩ [.ref (am), .int (iI (m)), .int (iI (x))] (mP θ am ar w N) (some (.int (iI (bI (mcB w m x))))) (mP θ am ar w N) := by
  refine z_start (own := RX7) (nm := "mayCaller") pnX7 rfl rfl (Nat.le_of_ble_eq_true rfl) ?_
  intro κ hκ hκl C
  change Z κ (mP θ am ar w N) 0 0 0 [(0, .ref (am)), (1, .int (iI (m))), (2, .int (iI (x)))] []
  have hB := hS.B
  obtain ⟨hB1, hB2, hB3, hB4, hB5, hB6⟩ := hS.B
  have hC := hS.C
  refine z_aload_n C 1 0 dX7_mayCaller_0 rfl rfl ?_
  refine m_geta C hκ 4 13 (by decide) rfl q2008 rfl dX7_mayCaller_1 rfl ?_
  refine z_iload_n C 5 1 dX7_mayCaller_4 rfl rfl ?_
  obtain ⟨f1a, f1b, f1c, f1d⟩ := hS.M (show 0 ≤ m by omega) (by omega)
  refine m_iald (len := 100) C hκ hD 6 13 (by decide) rfl rfl (by omega) (by omega) dX7_mayCaller_5 rfl ?_
  refine z_istore_n (lv' := [(0, .ref (am)), (1, .int (iI (m))), (2, .int (iI (x))), (3, .int (iI (w 13 (m))))]) C 7 [1, 2, 3, 0] dX7_mayCaller_6 (by decide) rfl rfl ?_
  refine z_aload_n C 8 0 dX7_mayCaller_7 rfl rfl ?_
  refine m_geta C hκ 11 20 (by decide) rfl q2015 rfl dX7_mayCaller_8 rfl ?_
  refine z_iload_n C 12 1 dX7_mayCaller_11 rfl rfl ?_
  refine m_bald (len := 100) C hκ hD hw 13 20 (by decide) rfl rfl rfl (by omega) (by omega) dX7_mayCaller_12 rfl ?_
  refine z_ifB_ne C 33 16 dX7_mayCaller_13 (by decide) rfl (fun c2 => ?_) (fun c2 => ?_)
  · skip
    have c2b : (w 20 (m) = 1) := of_decide_eq_true c2
    refine z_iconst C 34 dX7_mayCaller_33 rfl ?_
    refine z_as (st' := [.int (iI (bI (true)))]) rfl rfl rfl ?_
    exact z_iret C dX7_mayCaller_34 (bI_nar _) (Nat.le_of_ble_eq_true rfl) (Nat.le_of_ble_eq_true rfl) ⟨congrArg (fun b => some (Value.int (iI (bI b)))) (by clear C hκ hκl hS hB hB1 hB2 hB3 hB4 hB5 hB6 hC hD hw f1a f1b f1c f1d; first | (simp_all [mcB]; done) | (simp_all [mcB] <;> omega) | (grind [mcB]) | (simp [mcB] at * <;> omega)), rfl⟩
  · skip
    have c2b : ¬ (w 20 (m) = 1) := of_decide_eq_false c2
    refine z_aload_n C 17 0 dX7_mayCaller_16 rfl rfl ?_
    refine z_iload_n C 18 1 dX7_mayCaller_17 rfl rfl ?_
    refine z_callVF (n' := 0) (k' := 0) (As := [.int (iI (m))]) (rest := []) C hκ hκl 21 (k7_who hD hw (m) r_m (by omega)) dX7_mayCaller_18 q2279 q2281 qs55 q97 q2282 znX7_who (Nat.le_of_ble_eq_true rfl) (Nat.le_of_ble_eq_true rfl) (Nat.le_of_ble_eq_true rfl) (Nat.le_of_ble_eq_true rfl) mrec rfl rfl (Nat.le_of_ble_eq_true rfl) rfl rfl rfl ?_
    refine z_iconst C 22 dX7_mayCaller_21 rfl ?_
    refine z_icmp_eq C 33 25 dX7_mayCaller_22 (by decide) (inR_zand _ _) ⟨by decide, by decide⟩ rfl (fun c3 => ?_) (fun c3 => ?_)
    · skip
      refine z_iconst C 34 dX7_mayCaller_33 rfl ?_
      refine z_as (st' := [.int (iI (bI (true)))]) rfl rfl rfl ?_
      exact z_iret C dX7_mayCaller_34 (bI_nar _) (Nat.le_of_ble_eq_true rfl) (Nat.le_of_ble_eq_true rfl) ⟨congrArg (fun b => some (Value.int (iI (bI b)))) (by clear C hκ hκl hS hB hB1 hB2 hB3 hB4 hB5 hB6 hC hD hw f1a f1b f1c f1d; first | (simp_all [mcB]; done) | (simp_all [mcB] <;> omega) | (grind [mcB]) | (simp [mcB] at * <;> omega)), rfl⟩
    · skip
      refine z_aload_n C 26 0 dX7_mayCaller_25 rfl rfl ?_
      refine m_geti C hκ 29 34 (by decide) rfl q2029 rfl dX7_mayCaller_26 rfl ?_
      refine z_iload_n C 30 3 dX7_mayCaller_29 rfl rfl ?_
      refine z_icmp_ne C 35 33 dX7_mayCaller_30 (by decide) ⟨by omega, by omega⟩ (hw.r _ _ rfl) rfl (fun c4 => ?_) (fun c4 => ?_)
      · skip
        refine z_aload_n C 36 0 dX7_mayCaller_35 rfl rfl ?_
        refine z_iload_n C 37 1 dX7_mayCaller_36 rfl rfl ?_
        refine z_callVF (n' := 0) (k' := 0) (As := [.int (iI (m))]) (rest := []) C hκ hκl 40 (k7_who hD hw (m) r_m (by omega)) dX7_mayCaller_37 q2279 q2281 qs55 q97 q2282 znX7_who (Nat.le_of_ble_eq_true rfl) (Nat.le_of_ble_eq_true rfl) (Nat.le_of_ble_eq_true rfl) (Nat.le_of_ble_eq_true rfl) mrec rfl rfl (Nat.le_of_ble_eq_true rfl) rfl rfl rfl ?_
        refine z_iconst C 41 dX7_mayCaller_40 rfl ?_
        refine z_icmp_eq C 64 44 dX7_mayCaller_41 (by decide) (inR_zand _ _) ⟨by decide, by decide⟩ rfl (fun c5 => ?_) (fun c5 => ?_)
        · skip
          refine z_aload_n C 65 0 dX7_mayCaller_64 rfl rfl ?_
          refine z_iload_n C 66 1 dX7_mayCaller_65 rfl rfl ?_
          refine z_callVF (n' := 0) (k' := 0) (As := [.int (iI (m))]) (rest := []) C hκ hκl 69 (k7_who hD hw (m) r_m (by omega)) dX7_mayCaller_66 q2279 q2281 qs55 q97 q2282 znX7_who (Nat.le_of_ble_eq_true rfl) (Nat.le_of_ble_eq_true rfl) (Nat.le_of_ble_eq_true rfl) (Nat.le_of_ble_eq_true rfl) mrec rfl rfl (Nat.le_of_ble_eq_true rfl) rfl rfl rfl ?_
          refine z_iconst C 70 dX7_mayCaller_69 rfl ?_
          refine z_icmp_ne C 85 73 dX7_mayCaller_70 (by decide) (inR_zand _ _) ⟨by decide, by decide⟩ rfl (fun c6 => ?_) (fun c6 => ?_)
          · skip
            refine z_iconst C 86 dX7_mayCaller_85 rfl ?_
            refine z_as (st' := [.int (iI (bI (false)))]) rfl rfl rfl ?_
            exact z_iret C dX7_mayCaller_86 (bI_nar _) (Nat.le_of_ble_eq_true rfl) (Nat.le_of_ble_eq_true rfl) ⟨congrArg (fun b => some (Value.int (iI (bI b)))) (by clear C hκ hκl hS hB hB1 hB2 hB3 hB4 hB5 hB6 hC hD hw f1a f1b f1c f1d; first | (simp_all [mcB]; done) | (simp_all [mcB] <;> omega) | (grind [mcB]) | (simp [mcB] at * <;> omega)), rfl⟩
          · skip
            refine z_aload_n C 74 0 dX7_mayCaller_73 rfl rfl ?_
            refine z_aload_n C 75 0 dX7_mayCaller_74 rfl rfl ?_
            refine m_geti C hκ 78 34 (by decide) rfl q2029 rfl dX7_mayCaller_75 rfl ?_
            refine z_iload_n C 79 3 dX7_mayCaller_78 rfl rfl ?_
            refine z_callVF (n' := 0) (k' := 0) (As := [.int (iI (w 34 0)), .int (iI (w 13 (m)))]) (rest := []) C hκ hκl 82 (k7_isOne hD hw (w 34 0) (w 13 (m)) ⟨by omega, by omega⟩ (hw.r _ _ rfl) (by omega) (by omega)) dX7_mayCaller_79 q2197 q2199 qs44 q97 q2200 znX7_isOne (Nat.le_of_ble_eq_true rfl) (Nat.le_of_ble_eq_true rfl) (Nat.le_of_ble_eq_true rfl) (Nat.le_of_ble_eq_true rfl) mrec rfl rfl (Nat.le_of_ble_eq_true rfl) rfl rfl rfl ?_
            refine z_ifB_ne C 87 85 dX7_mayCaller_82 (by decide) rfl (fun c7 => ?_) (fun c7 => ?_)
            · skip
              refine z_aload_n C 88 0 dX7_mayCaller_87 rfl rfl ?_
              refine z_iload_n C 89 1 dX7_mayCaller_88 rfl rfl ?_
              refine z_iconst C 90 dX7_mayCaller_89 rfl ?_
              refine z_callVF (n' := 0) (k' := 0) (As := [.int (iI (m)), .int (iI (4))]) (rest := []) C hκ hκl 93 (k7_has hD hw (m) (4) r_m ⟨by decide, by decide⟩ (by omega)) dX7_mayCaller_90 q2271 q2273 qs53 q97 q2274 znX7_has (Nat.le_of_ble_eq_true rfl) (Nat.le_of_ble_eq_true rfl) (Nat.le_of_ble_eq_true rfl) (Nat.le_of_ble_eq_true rfl) mrec rfl rfl (Nat.le_of_ble_eq_true rfl) rfl rfl rfl ?_
              refine z_ifB_ne C 128 96 dX7_mayCaller_93 (by decide) rfl (fun c8 => ?_) (fun c8 => ?_)
              · skip
                refine z_iconst C 129 dX7_mayCaller_128 rfl ?_
                refine z_goto C 133 dX7_mayCaller_129 (by decide) ?_
                refine z_as (st' := [.int (iI (bI (true)))]) rfl rfl rfl ?_
                exact z_iret C dX7_mayCaller_133 (bI_nar _) (Nat.le_of_ble_eq_true rfl) (Nat.le_of_ble_eq_true rfl) ⟨congrArg (fun b => some (Value.int (iI (bI b)))) (by clear C hκ hκl hS hB hB1 hB2 hB3 hB4 hB5 hB6 hC hD hw f1a f1b f1c f1d; first | (simp_all [mcB]; done) | (simp_all [mcB] <;> omega) | (grind [mcB]) | (simp [mcB] at * <;> omega)), rfl⟩
              · skip
                refine z_iload_n C 97 2 dX7_mayCaller_96 rfl rfl ?_
                refine z_iconst C 98 dX7_mayCaller_97 rfl ?_
                refine z_icmp_eq C 132 101 dX7_mayCaller_98 (by decide) r_x ⟨by decide, by decide⟩ rfl (fun c9 => ?_) (fun c9 => ?_)
                · skip
                  refine z_iconst C 133 dX7_mayCaller_132 rfl ?_
                  refine z_as (st' := [.int (iI (bI (false)))]) rfl rfl rfl ?_
                  exact z_iret C dX7_mayCaller_133 (bI_nar _) (Nat.le_of_ble_eq_true rfl) (Nat.le_of_ble_eq_true rfl) ⟨congrArg (fun b => some (Value.int (iI (bI b)))) (by clear C hκ hκl hS hB hB1 hB2 hB3 hB4 hB5 hB6 hC hD hw f1a f1b f1c f1d; first | (simp_all [mcB]; done) | (simp_all [mcB] <;> omega) | (grind [mcB]) | (simp [mcB] at * <;> omega)), rfl⟩
                · skip
                  refine z_aload_n C 102 0 dX7_mayCaller_101 rfl rfl ?_
                  refine m_geta C hκ 105 29 (by decide) rfl q2024 rfl dX7_mayCaller_102 rfl ?_
                  refine z_iload_n C 106 2 dX7_mayCaller_105 rfl rfl ?_
                  obtain ⟨f10a, f10b, f10c⟩ := hS.X (show 0 ≤ x by omega) (by omega)
                  refine m_iald (len := 80) C hκ hD 107 29 (by decide) rfl rfl (by omega) (by omega) dX7_mayCaller_106 rfl ?_
                  refine z_iconst C 108 dX7_mayCaller_107 rfl ?_
                  refine z_icmp_ne C 132 111 dX7_mayCaller_108 (by decide) (hw.r _ _ rfl) ⟨by decide, by decide⟩ rfl (fun c11 => ?_) (fun c11 => ?_)
                  · skip
                    refine z_iconst C 133 dX7_mayCaller_132 rfl ?_
                    refine z_as (st' := [.int (iI (bI (false)))]) rfl rfl rfl ?_
                    exact z_iret C dX7_mayCaller_133 (bI_nar _) (Nat.le_of_ble_eq_true rfl) (Nat.le_of_ble_eq_true rfl) ⟨congrArg (fun b => some (Value.int (iI (bI b)))) (by clear C hκ hκl hS hB hB1 hB2 hB3 hB4 hB5 hB6 hC hD hw f1a f1b f1c f1d f10a f10b f10c; first | (simp_all [mcB]; done) | (simp_all [mcB] <;> omega) | (grind [mcB]) | (simp [mcB] at * <;> omega)), rfl⟩
                  · skip
                    refine z_aload_n C 112 0 dX7_mayCaller_111 rfl rfl ?_
                    refine z_aload_n C 113 0 dX7_mayCaller_112 rfl rfl ?_
                    refine m_geta C hκ 116 28 (by decide) rfl q2023 rfl dX7_mayCaller_113 rfl ?_
                    refine z_iload_n C 117 2 dX7_mayCaller_116 rfl rfl ?_
                    refine m_iald (len := 80) C hκ hD 118 28 (by decide) rfl rfl (by omega) (by omega) dX7_mayCaller_117 rfl ?_
                    refine z_aload_n C 119 0 dX7_mayCaller_118 rfl rfl ?_
                    refine m_geti C hκ 122 34 (by decide) rfl q2029 rfl dX7_mayCaller_119 rfl ?_
                    refine z_callVF (n' := 0) (k' := 0) (As := [.int (iI (w 28 (x))), .int (iI (w 34 0))]) (rest := []) C hκ hκl 125 (k7_isOne hD hw (w 28 (x)) (w 34 0) (hw.r _ _ rfl) ⟨by omega, by omega⟩ (by omega) (by omega)) dX7_mayCaller_122 q2197 q2199 qs44 q97 q2200 znX7_isOne (Nat.le_of_ble_eq_true rfl) (Nat.le_of_ble_eq_true rfl) (Nat.le_of_ble_eq_true rfl) (Nat.le_of_ble_eq_true rfl) mrec rfl rfl (Nat.le_of_ble_eq_true rfl) rfl rfl rfl ?_
                    refine z_ifB_eq C 132 128 dX7_mayCaller_125 (by decide) rfl (fun c12 => ?_) (fun c12 => ?_)
                    · skip
                      refine z_iconst C 133 dX7_mayCaller_132 rfl ?_
                      refine z_as (st' := [.int (iI (bI (false)))]) rfl rfl rfl ?_
                      exact z_iret C dX7_mayCaller_133 (bI_nar _) (Nat.le_of_ble_eq_true rfl) (Nat.le_of_ble_eq_true rfl) ⟨congrArg (fun b => some (Value.int (iI (bI b)))) (by clear C hκ hκl hS hB hB1 hB2 hB3 hB4 hB5 hB6 hC hD hw f1a f1b f1c f1d f10a f10b f10c; first | (simp_all [mcB]; done) | (simp_all [mcB] <;> omega) | (grind [mcB]) | (simp [mcB] at * <;> omega)), rfl⟩
                    · skip
                      refine z_iconst C 129 dX7_mayCaller_128 rfl ?_
                      refine z_goto C 133 dX7_mayCaller_129 (by decide) ?_
                      refine z_as (st' := [.int (iI (bI (true)))]) rfl rfl rfl ?_
                      exact z_iret C dX7_mayCaller_133 (bI_nar _) (Nat.le_of_ble_eq_true rfl) (Nat.le_of_ble_eq_true rfl) ⟨congrArg (fun b => some (Value.int (iI (bI b)))) (by clear C hκ hκl hS hB hB1 hB2 hB3 hB4 hB5 hB6 hC hD hw f1a f1b f1c f1d f10a f10b f10c; first | (simp_all [mcB]; done) | (simp_all [mcB] <;> omega) | (grind [mcB]) | (simp [mcB] at * <;> omega)), rfl⟩
            · skip
              refine z_iconst C 86 dX7_mayCaller_85 rfl ?_
              refine z_as (st' := [.int (iI (bI (false)))]) rfl rfl rfl ?_
              exact z_iret C dX7_mayCaller_86 (bI_nar _) (Nat.le_of_ble_eq_true rfl) (Nat.le_of_ble_eq_true rfl) ⟨congrArg (fun b => some (Value.int (iI (bI b)))) (by clear C hκ hκl hS hB hB1 hB2 hB3 hB4 hB5 hB6 hC hD hw f1a f1b f1c f1d; first | (simp_all [mcB]; done) | (simp_all [mcB] <;> omega) | (grind [mcB]) | (simp [mcB] at * <;> omega)), rfl⟩
        · skip
          refine z_aload_n C 45 0 dX7_mayCaller_44 rfl rfl ?_
          refine m_geta C hκ 48 3 (by decide) rfl q1998 rfl dX7_mayCaller_45 rfl ?_
          refine z_aload_n C 49 0 dX7_mayCaller_48 rfl rfl ?_
          refine m_geti C hκ 52 34 (by decide) rfl q2029 rfl dX7_mayCaller_49 rfl ?_
          obtain ⟨f13a, f13b, f13c, f13d, f13e, f13f, f13g, f13h⟩ := hS.T (show 0 ≤ w 34 0 by omega) (by omega)
          refine m_iald (len := 60) C hκ hD 53 3 (by decide) rfl rfl (by omega) (by omega) dX7_mayCaller_52 rfl ?_
          refine z_aload_n C 54 0 dX7_mayCaller_53 rfl rfl ?_
          refine m_geta C hκ 57 3 (by decide) rfl q1998 rfl dX7_mayCaller_54 rfl ?_
          refine z_iload_n C 58 3 dX7_mayCaller_57 rfl rfl ?_
          obtain ⟨f14a, f14b, f14c, f14d, f14e, f14f, f14g, f14h⟩ := hS.T (show 0 ≤ w 13 (m) by omega) (by omega)
          refine m_iald (len := 60) C hκ hD 59 3 (by decide) rfl rfl (by omega) (by omega) dX7_mayCaller_58 rfl ?_
          refine z_icmp_ne C 64 62 dX7_mayCaller_59 (by decide) (hw.r _ _ rfl) (hw.r _ _ rfl) rfl (fun c15 => ?_) (fun c15 => ?_)
          · skip
            refine z_aload_n C 65 0 dX7_mayCaller_64 rfl rfl ?_
            refine z_iload_n C 66 1 dX7_mayCaller_65 rfl rfl ?_
            refine z_callVF (n' := 0) (k' := 0) (As := [.int (iI (m))]) (rest := []) C hκ hκl 69 (k7_who hD hw (m) r_m (by omega)) dX7_mayCaller_66 q2279 q2281 qs55 q97 q2282 znX7_who (Nat.le_of_ble_eq_true rfl) (Nat.le_of_ble_eq_true rfl) (Nat.le_of_ble_eq_true rfl) (Nat.le_of_ble_eq_true rfl) mrec rfl rfl (Nat.le_of_ble_eq_true rfl) rfl rfl rfl ?_
            refine z_iconst C 70 dX7_mayCaller_69 rfl ?_
            refine z_icmp_ne C 85 73 dX7_mayCaller_70 (by decide) (inR_zand _ _) ⟨by decide, by decide⟩ rfl (fun c16 => ?_) (fun c16 => ?_)
            · skip
              refine z_iconst C 86 dX7_mayCaller_85 rfl ?_
              refine z_as (st' := [.int (iI (bI (false)))]) rfl rfl rfl ?_
              exact z_iret C dX7_mayCaller_86 (bI_nar _) (Nat.le_of_ble_eq_true rfl) (Nat.le_of_ble_eq_true rfl) ⟨congrArg (fun b => some (Value.int (iI (bI b)))) (by clear C hκ hκl hS hB hB1 hB2 hB3 hB4 hB5 hB6 hC hD hw f1a f1b f1c f1d f13a f13b f13c f13d f13e f13f f13g f13h f14a f14b f14c f14d f14e f14f f14g f14h; first | (simp_all [mcB]; done) | (simp_all [mcB] <;> omega) | (grind [mcB]) | (simp [mcB] at * <;> omega)), rfl⟩
            · skip
              refine z_aload_n C 74 0 dX7_mayCaller_73 rfl rfl ?_
              refine z_aload_n C 75 0 dX7_mayCaller_74 rfl rfl ?_
              refine m_geti C hκ 78 34 (by decide) rfl q2029 rfl dX7_mayCaller_75 rfl ?_
              refine z_iload_n C 79 3 dX7_mayCaller_78 rfl rfl ?_
              refine z_callVF (n' := 0) (k' := 0) (As := [.int (iI (w 34 0)), .int (iI (w 13 (m)))]) (rest := []) C hκ hκl 82 (k7_isOne hD hw (w 34 0) (w 13 (m)) ⟨by omega, by omega⟩ (hw.r _ _ rfl) (by omega) (by omega)) dX7_mayCaller_79 q2197 q2199 qs44 q97 q2200 znX7_isOne (Nat.le_of_ble_eq_true rfl) (Nat.le_of_ble_eq_true rfl) (Nat.le_of_ble_eq_true rfl) (Nat.le_of_ble_eq_true rfl) mrec rfl rfl (Nat.le_of_ble_eq_true rfl) rfl rfl rfl ?_
              refine z_ifB_ne C 87 85 dX7_mayCaller_82 (by decide) rfl (fun c17 => ?_) (fun c17 => ?_)
              · skip
                refine z_aload_n C 88 0 dX7_mayCaller_87 rfl rfl ?_
                refine z_iload_n C 89 1 dX7_mayCaller_88 rfl rfl ?_
                refine z_iconst C 90 dX7_mayCaller_89 rfl ?_
                refine z_callVF (n' := 0) (k' := 0) (As := [.int (iI (m)), .int (iI (4))]) (rest := []) C hκ hκl 93 (k7_has hD hw (m) (4) r_m ⟨by decide, by decide⟩ (by omega)) dX7_mayCaller_90 q2271 q2273 qs53 q97 q2274 znX7_has (Nat.le_of_ble_eq_true rfl) (Nat.le_of_ble_eq_true rfl) (Nat.le_of_ble_eq_true rfl) (Nat.le_of_ble_eq_true rfl) mrec rfl rfl (Nat.le_of_ble_eq_true rfl) rfl rfl rfl ?_
                refine z_ifB_ne C 128 96 dX7_mayCaller_93 (by decide) rfl (fun c18 => ?_) (fun c18 => ?_)
                · skip
                  refine z_iconst C 129 dX7_mayCaller_128 rfl ?_
                  refine z_goto C 133 dX7_mayCaller_129 (by decide) ?_
                  refine z_as (st' := [.int (iI (bI (true)))]) rfl rfl rfl ?_
                  exact z_iret C dX7_mayCaller_133 (bI_nar _) (Nat.le_of_ble_eq_true rfl) (Nat.le_of_ble_eq_true rfl) ⟨congrArg (fun b => some (Value.int (iI (bI b)))) (by clear C hκ hκl hS hB hB1 hB2 hB3 hB4 hB5 hB6 hC hD hw f1a f1b f1c f1d f13a f13b f13c f13d f13e f13f f13g f13h f14a f14b f14c f14d f14e f14f f14g f14h; first | (simp_all [mcB]; done) | (simp_all [mcB] <;> omega) | (grind [mcB]) | (simp [mcB] at * <;> omega)), rfl⟩
                · skip
                  refine z_iload_n C 97 2 dX7_mayCaller_96 rfl rfl ?_
                  refine z_iconst C 98 dX7_mayCaller_97 rfl ?_
                  refine z_icmp_eq C 132 101 dX7_mayCaller_98 (by decide) r_x ⟨by decide, by decide⟩ rfl (fun c19 => ?_) (fun c19 => ?_)
                  · skip
                    refine z_iconst C 133 dX7_mayCaller_132 rfl ?_
                    refine z_as (st' := [.int (iI (bI (false)))]) rfl rfl rfl ?_
                    exact z_iret C dX7_mayCaller_133 (bI_nar _) (Nat.le_of_ble_eq_true rfl) (Nat.le_of_ble_eq_true rfl) ⟨congrArg (fun b => some (Value.int (iI (bI b)))) (by clear C hκ hκl hS hB hB1 hB2 hB3 hB4 hB5 hB6 hC hD hw f1a f1b f1c f1d f13a f13b f13c f13d f13e f13f f13g f13h f14a f14b f14c f14d f14e f14f f14g f14h; first | (simp_all [mcB]; done) | (simp_all [mcB] <;> omega) | (grind [mcB]) | (simp [mcB] at * <;> omega)), rfl⟩
                  · skip
                    refine z_aload_n C 102 0 dX7_mayCaller_101 rfl rfl ?_
                    refine m_geta C hκ 105 29 (by decide) rfl q2024 rfl dX7_mayCaller_102 rfl ?_
                    refine z_iload_n C 106 2 dX7_mayCaller_105 rfl rfl ?_
                    obtain ⟨f20a, f20b, f20c⟩ := hS.X (show 0 ≤ x by omega) (by omega)
                    refine m_iald (len := 80) C hκ hD 107 29 (by decide) rfl rfl (by omega) (by omega) dX7_mayCaller_106 rfl ?_
                    refine z_iconst C 108 dX7_mayCaller_107 rfl ?_
                    refine z_icmp_ne C 132 111 dX7_mayCaller_108 (by decide) (hw.r _ _ rfl) ⟨by decide, by decide⟩ rfl (fun c21 => ?_) (fun c21 => ?_)
                    · skip
                      refine z_iconst C 133 dX7_mayCaller_132 rfl ?_
                      refine z_as (st' := [.int (iI (bI (false)))]) rfl rfl rfl ?_
                      exact z_iret C dX7_mayCaller_133 (bI_nar _) (Nat.le_of_ble_eq_true rfl) (Nat.le_of_ble_eq_true rfl) ⟨congrArg (fun b => some (Value.int (iI (bI b)))) (by clear C hκ hκl hS hB hB1 hB2 hB3 hB4 hB5 hB6 hC hD hw f1a f1b f1c f1d f13a f13b f13c f13d f13e f13f f13g f13h f14a f14b f14c f14d f14e f14f f14g f14h f20a f20b f20c; first | (simp_all [mcB]; done) | (simp_all [mcB] <;> omega) | (grind [mcB]) | (simp [mcB] at * <;> omega)), rfl⟩
                    · skip
                      refine z_aload_n C 112 0 dX7_mayCaller_111 rfl rfl ?_
                      refine z_aload_n C 113 0 dX7_mayCaller_112 rfl rfl ?_
                      refine m_geta C hκ 116 28 (by decide) rfl q2023 rfl dX7_mayCaller_113 rfl ?_
                      refine z_iload_n C 117 2 dX7_mayCaller_116 rfl rfl ?_
                      refine m_iald (len := 80) C hκ hD 118 28 (by decide) rfl rfl (by omega) (by omega) dX7_mayCaller_117 rfl ?_
                      refine z_aload_n C 119 0 dX7_mayCaller_118 rfl rfl ?_
                      refine m_geti C hκ 122 34 (by decide) rfl q2029 rfl dX7_mayCaller_119 rfl ?_
                      refine z_callVF (n' := 0) (k' := 0) (As := [.int (iI (w 28 (x))), .int (iI (w 34 0))]) (rest := []) C hκ hκl 125 (k7_isOne hD hw (w 28 (x)) (w 34 0) (hw.r _ _ rfl) ⟨by omega, by omega⟩ (by omega) (by omega)) dX7_mayCaller_122 q2197 q2199 qs44 q97 q2200 znX7_isOne (Nat.le_of_ble_eq_true rfl) (Nat.le_of_ble_eq_true rfl) (Nat.le_of_ble_eq_true rfl) (Nat.le_of_ble_eq_true rfl) mrec rfl rfl (Nat.le_of_ble_eq_true rfl) rfl rfl rfl ?_
                      refine z_ifB_eq C 132 128 dX7_mayCaller_125 (by decide) rfl (fun c22 => ?_) (fun c22 => ?_)
                      · skip
                        refine z_iconst C 133 dX7_mayCaller_132 rfl ?_
                        refine z_as (st' := [.int (iI (bI (false)))]) rfl rfl rfl ?_
                        exact z_iret C dX7_mayCaller_133 (bI_nar _) (Nat.le_of_ble_eq_true rfl) (Nat.le_of_ble_eq_true rfl) ⟨congrArg (fun b => some (Value.int (iI (bI b)))) (by clear C hκ hκl hS hB hB1 hB2 hB3 hB4 hB5 hB6 hC hD hw f1a f1b f1c f1d f13a f13b f13c f13d f13e f13f f13g f13h f14a f14b f14c f14d f14e f14f f14g f14h f20a f20b f20c; first | (simp_all [mcB]; done) | (simp_all [mcB] <;> omega) | (grind [mcB]) | (simp [mcB] at * <;> omega)), rfl⟩
                      · skip
                        refine z_iconst C 129 dX7_mayCaller_128 rfl ?_
                        refine z_goto C 133 dX7_mayCaller_129 (by decide) ?_
                        refine z_as (st' := [.int (iI (bI (true)))]) rfl rfl rfl ?_
                        exact z_iret C dX7_mayCaller_133 (bI_nar _) (Nat.le_of_ble_eq_true rfl) (Nat.le_of_ble_eq_true rfl) ⟨congrArg (fun b => some (Value.int (iI (bI b)))) (by clear C hκ hκl hS hB hB1 hB2 hB3 hB4 hB5 hB6 hC hD hw f1a f1b f1c f1d f13a f13b f13c f13d f13e f13f f13g f13h f14a f14b f14c f14d f14e f14f f14g f14h f20a f20b f20c; first | (simp_all [mcB]; done) | (simp_all [mcB] <;> omega) | (grind [mcB]) | (simp [mcB] at * <;> omega)), rfl⟩
              · skip
                refine z_iconst C 86 dX7_mayCaller_85 rfl ?_
                refine z_as (st' := [.int (iI (bI (false)))]) rfl rfl rfl ?_
                exact z_iret C dX7_mayCaller_86 (bI_nar _) (Nat.le_of_ble_eq_true rfl) (Nat.le_of_ble_eq_true rfl) ⟨congrArg (fun b => some (Value.int (iI (bI b)))) (by clear C hκ hκl hS hB hB1 hB2 hB3 hB4 hB5 hB6 hC hD hw f1a f1b f1c f1d f13a f13b f13c f13d f13e f13f f13g f13h f14a f14b f14c f14d f14e f14f f14g f14h; first | (simp_all [mcB]; done) | (simp_all [mcB] <;> omega) | (grind [mcB]) | (simp [mcB] at * <;> omega)), rfl⟩
          · skip
            refine z_iconst C 63 dX7_mayCaller_62 rfl ?_
            refine z_as (st' := [.int (iI (bI (true)))]) rfl rfl rfl ?_
            exact z_iret C dX7_mayCaller_63 (bI_nar _) (Nat.le_of_ble_eq_true rfl) (Nat.le_of_ble_eq_true rfl) ⟨congrArg (fun b => some (Value.int (iI (bI b)))) (by clear C hκ hκl hS hB hB1 hB2 hB3 hB4 hB5 hB6 hC hD hw f1a f1b f1c f1d f13a f13b f13c f13d f13e f13f f13g f13h f14a f14b f14c f14d f14e f14f f14g f14h; first | (simp_all [mcB]; done) | (simp_all [mcB] <;> omega) | (grind [mcB]) | (simp [mcB] at * <;> omega)), rfl⟩
      · skip
        refine z_iconst C 34 dX7_mayCaller_33 rfl ?_
        refine z_as (st' := [.int (iI (bI (true)))]) rfl rfl rfl ?_
        exact z_iret C dX7_mayCaller_34 (bI_nar _) (Nat.le_of_ble_eq_true rfl) (Nat.le_of_ble_eq_true rfl) ⟨congrArg (fun b => some (Value.int (iI (bI b)))) (by clear C hκ hκl hS hB hB1 hB2 hB3 hB4 hB5 hB6 hC hD hw f1a f1b f1c f1d; first | (simp_all [mcB]; done) | (simp_all [mcB] <;> omega) | (grind [mcB]) | (simp [mcB] at * <;> omega)), rfl⟩
set_option maxRecDepth 100000 in
theorem k7_about {l : Launch} {θ : zTh} {N : zMap} {am : Nat} {ar : Nat → Nat} {w : mW} (hD : mDis am ar) (hw : mWF w) (t : Int) (k : Int) (r_t : inR t) (r_k : inR k) (hS : mS w)  : ZF θ l yX7_about cX7_about 3 (some .int) ⟨2, 0, 0, 46⟩ [.ref (am), .int (iI (t)), .int (iI (k))] (mP θ am ar w N) (some (.int (iI (abI w t k)))) (mP θ am ar w N) := by
  refine z_start (own := RX7) (nm := "about") pnX7 rfl rfl (Nat.le_of_ble_eq_true rfl) ?_
  intro κ hκ hκl C
  change Z κ (mP θ am ar w N) 0 0 0 [(0, .ref (am)), (1, .int (iI (t))), (2, .int (iI (k)))] []
  have hB := hS.B
  obtain ⟨hB1, hB2, hB3, hB4, hB5, hB6⟩ := hS.B
  have hC := hS.C
  refine z_aload_n C 1 0 dX7_about_0 rfl rfl ?_
  refine z_iload_n C 2 1 dX7_about_1 rfl rfl ?_
  refine z_callVF (n' := 0) (k' := 0) (As := [.int (iI (t))]) (rest := []) C hκ hκl 5 (k7_isType hD hw (t) r_t hB) dX7_about_2 q2160 q2162 qs40 q97 q2163 znX7_isType (Nat.le_of_ble_eq_true rfl) (Nat.le_of_ble_eq_true rfl) (Nat.le_of_ble_eq_true rfl) (Nat.le_of_ble_eq_true rfl) mrec rfl rfl (Nat.le_of_ble_eq_true rfl) rfl rfl rfl ?_
  refine z_ifB_eq C 20 8 dX7_about_5 (by decide) rfl (fun c1 => ?_) (fun c1 => ?_)
  · skip
    have c1b : ¬ (0 ≤ (t) ∧ (t) < w 0 0) := of_decide_eq_false c1
    refine z_iconst C 21 dX7_about_20 rfl ?_
    exact z_iret C dX7_about_21 rfl (Nat.le_of_ble_eq_true rfl) (Nat.le_of_ble_eq_true rfl) ⟨congrArg (fun z => some (Value.int (iI z))) (by clear C hκ hκl hS hB hB1 hB2 hB3 hB4 hB5 hB6 hC hD hw; first | (simp_all [abI, bI]; done) | (simp_all [abI, bI] <;> omega) | (grind [abI, bI]) | (simp [abI, bI] at * <;> omega)), rfl⟩
  · skip
    have c1b : (0 ≤ (t) ∧ (t) < w 0 0) := of_decide_eq_true c1
    refine z_iload_n C 9 2 dX7_about_8 rfl rfl ?_
    refine z_i2l C 10 dX7_about_9 r_k rfl ?_
    refine z_lconst (x := 0) C 11 dX7_about_10 rfl rfl ?_
    refine z_ldc2 (z := 9) C 14 dX7_about_11 q2192 (by decide) rfl ?_
    refine z_callSF (n' := 0) (k' := 0) (As := [.long (lI (k)), .long (lI (0)), .long (lI (9))]) (rest := []) C hκ hκl 17 (k7_in (k) (0) (9) (inR_L r_k) ⟨by decide, by decide⟩ ⟨by decide, by decide⟩) dX7_about_14 q2164 q2165 q97 q2166 znX7_in (Nat.le_of_ble_eq_true rfl) (Nat.le_of_ble_eq_true rfl) (Nat.le_of_ble_eq_true rfl) (Nat.le_of_ble_eq_true rfl) rfl (Nat.le_of_ble_eq_true rfl) rfl rfl rfl ?_
    refine z_ifB_ne C 22 20 dX7_about_17 (by decide) rfl (fun c2 => ?_) (fun c2 => ?_)
    · skip
      have c2b : (((0) ≤ (k) ∧ (k) ≤ (9))) := of_decide_eq_true c2
      refine z_iload_n C 23 2 dX7_about_22 rfl rfl ?_
      have c3r : inR (k) := r_k
      rcases (show k = 0 ∨ k = 1 ∨ k = 2 ∨ k = 3 ∨ k = 4 ∨ k = 5 ∨ k = 6 ∨ (k < 0 ∨ 6 < k) by omega) with c3 | c3 | c3 | c3 | c3 | c3 | c3 | c3
      · skip
        refine z_tsIn C (k) 64 (off := 41) dX7_about_23 c3r (by omega) (by omega) (by rw [c3]; rfl) (by decide) ?_
        refine z_aload_n C 65 0 dX7_about_64 rfl rfl ?_
        refine m_geta C hκ 68 1 (by decide) rfl q1996 rfl dX7_about_65 rfl ?_
        refine z_iload_n C 69 1 dX7_about_68 rfl rfl ?_
        obtain ⟨f4a, f4b, f4c, f4d, f4e, f4f, f4g, f4h⟩ := hS.T (show 0 ≤ t by omega) (by omega)
        refine m_iald (len := 60) C hκ hD 70 1 (by decide) rfl rfl (by omega) (by omega) dX7_about_69 rfl ?_
        exact z_iret C dX7_about_70 rfl (Nat.le_of_ble_eq_true rfl) (Nat.le_of_ble_eq_true rfl) ⟨congrArg (fun z => some (Value.int (iI z))) (by clear C hκ hκl hS hB hB1 hB2 hB3 hB4 hB5 hB6 hC hD hw f4a f4b f4c f4d f4e f4f f4g f4h; first | (simp_all [abI, bI]; done) | (simp_all [abI, bI] <;> omega) | (grind [abI, bI]) | (simp [abI, bI] at * <;> omega)), rfl⟩
      · skip
        refine z_tsIn C (k) 71 (off := 48) dX7_about_23 c3r (by omega) (by omega) (by rw [c3]; rfl) (by decide) ?_
        refine z_aload_n C 72 0 dX7_about_71 rfl rfl ?_
        refine m_geta C hκ 75 2 (by decide) rfl q1997 rfl dX7_about_72 rfl ?_
        refine z_iload_n C 76 1 dX7_about_75 rfl rfl ?_
        obtain ⟨f5a, f5b, f5c, f5d, f5e, f5f, f5g, f5h⟩ := hS.T (show 0 ≤ t by omega) (by omega)
        refine m_iald (len := 60) C hκ hD 77 2 (by decide) rfl rfl (by omega) (by omega) dX7_about_76 rfl ?_
        exact z_iret C dX7_about_77 rfl (Nat.le_of_ble_eq_true rfl) (Nat.le_of_ble_eq_true rfl) ⟨congrArg (fun z => some (Value.int (iI z))) (by clear C hκ hκl hS hB hB1 hB2 hB3 hB4 hB5 hB6 hC hD hw f5a f5b f5c f5d f5e f5f f5g f5h; first | (simp_all [abI, bI]; done) | (simp_all [abI, bI] <;> omega) | (grind [abI, bI]) | (simp [abI, bI] at * <;> omega)), rfl⟩
      · skip
        refine z_tsIn C (k) 78 (off := 55) dX7_about_23 c3r (by omega) (by omega) (by rw [c3]; rfl) (by decide) ?_
        refine z_aload_n C 79 0 dX7_about_78 rfl rfl ?_
        refine m_geta C hκ 82 4 (by decide) rfl q1999 rfl dX7_about_79 rfl ?_
        refine z_iload_n C 83 1 dX7_about_82 rfl rfl ?_
        obtain ⟨f6a, f6b, f6c, f6d, f6e, f6f, f6g, f6h⟩ := hS.T (show 0 ≤ t by omega) (by omega)
        refine m_iald (len := 60) C hκ hD 84 4 (by decide) rfl rfl (by omega) (by omega) dX7_about_83 rfl ?_
        exact z_iret C dX7_about_84 rfl (Nat.le_of_ble_eq_true rfl) (Nat.le_of_ble_eq_true rfl) ⟨congrArg (fun z => some (Value.int (iI z))) (by clear C hκ hκl hS hB hB1 hB2 hB3 hB4 hB5 hB6 hC hD hw f6a f6b f6c f6d f6e f6f f6g f6h; first | (simp_all [abI, bI]; done) | (simp_all [abI, bI] <;> omega) | (grind [abI, bI]) | (simp [abI, bI] at * <;> omega)), rfl⟩
      · skip
        refine z_tsIn C (k) 85 (off := 62) dX7_about_23 c3r (by omega) (by omega) (by rw [c3]; rfl) (by decide) ?_
        refine z_aload_n C 86 0 dX7_about_85 rfl rfl ?_
        refine m_geta C hκ 89 3 (by decide) rfl q1998 rfl dX7_about_86 rfl ?_
        refine z_iload_n C 90 1 dX7_about_89 rfl rfl ?_
        obtain ⟨f7a, f7b, f7c, f7d, f7e, f7f, f7g, f7h⟩ := hS.T (show 0 ≤ t by omega) (by omega)
        refine m_iald (len := 60) C hκ hD 91 3 (by decide) rfl rfl (by omega) (by omega) dX7_about_90 rfl ?_
        exact z_iret C dX7_about_91 rfl (Nat.le_of_ble_eq_true rfl) (Nat.le_of_ble_eq_true rfl) ⟨congrArg (fun z => some (Value.int (iI z))) (by clear C hκ hκl hS hB hB1 hB2 hB3 hB4 hB5 hB6 hC hD hw f7a f7b f7c f7d f7e f7f f7g f7h; first | (simp_all [abI, bI]; done) | (simp_all [abI, bI] <;> omega) | (grind [abI, bI]) | (simp [abI, bI] at * <;> omega)), rfl⟩
      · skip
        refine z_tsIn C (k) 92 (off := 69) dX7_about_23 c3r (by omega) (by omega) (by rw [c3]; rfl) (by decide) ?_
        refine z_aload_n C 93 0 dX7_about_92 rfl rfl ?_
        refine m_geta C hκ 96 6 (by decide) rfl q2001 rfl dX7_about_93 rfl ?_
        refine z_iload_n C 97 1 dX7_about_96 rfl rfl ?_
        obtain ⟨f8a, f8b, f8c, f8d, f8e, f8f, f8g, f8h⟩ := hS.T (show 0 ≤ t by omega) (by omega)
        refine m_iald (len := 60) C hκ hD 98 6 (by decide) rfl rfl (by omega) (by omega) dX7_about_97 rfl ?_
        exact z_iret C dX7_about_98 rfl (Nat.le_of_ble_eq_true rfl) (Nat.le_of_ble_eq_true rfl) ⟨congrArg (fun z => some (Value.int (iI z))) (by clear C hκ hκl hS hB hB1 hB2 hB3 hB4 hB5 hB6 hC hD hw f8a f8b f8c f8d f8e f8f f8g f8h; first | (simp_all [abI, bI]; done) | (simp_all [abI, bI] <;> omega) | (grind [abI, bI]) | (simp [abI, bI] at * <;> omega)), rfl⟩
      · skip
        refine z_tsIn C (k) 99 (off := 76) dX7_about_23 c3r (by omega) (by omega) (by rw [c3]; rfl) (by decide) ?_
        refine z_aload_n C 100 0 dX7_about_99 rfl rfl ?_
        refine m_geta C hκ 103 10 (by decide) rfl q2005 rfl dX7_about_100 rfl ?_
        refine z_iload_n C 104 1 dX7_about_103 rfl rfl ?_
        obtain ⟨f9a, f9b, f9c, f9d, f9e, f9f, f9g, f9h⟩ := hS.T (show 0 ≤ t by omega) (by omega)
        refine m_iald (len := 60) C hκ hD 105 10 (by decide) rfl rfl (by omega) (by omega) dX7_about_104 rfl ?_
        exact z_iret C dX7_about_105 rfl (Nat.le_of_ble_eq_true rfl) (Nat.le_of_ble_eq_true rfl) ⟨congrArg (fun z => some (Value.int (iI z))) (by clear C hκ hκl hS hB hB1 hB2 hB3 hB4 hB5 hB6 hC hD hw f9a f9b f9c f9d f9e f9f f9g f9h; first | (simp_all [abI, bI]; done) | (simp_all [abI, bI] <;> omega) | (grind [abI, bI]) | (simp [abI, bI] at * <;> omega)), rfl⟩
      · skip
        refine z_tsIn C (k) 106 (off := 83) dX7_about_23 c3r (by omega) (by omega) (by rw [c3]; rfl) (by decide) ?_
        refine z_aload_n C 107 0 dX7_about_106 rfl rfl ?_
        refine z_iload_n C 108 1 dX7_about_107 rfl rfl ?_
        refine z_callVF (n' := 0) (k' := 0) (As := [.int (iI (t))]) (rest := []) C hκ hκl 111 (k7_isClosed hD hw (t) r_t hS (by omega)) dX7_about_108 q2193 q2195 qs43 q97 q2196 znX7_isClosed (Nat.le_of_ble_eq_true rfl) (Nat.le_of_ble_eq_true rfl) (Nat.le_of_ble_eq_true rfl) (Nat.le_of_ble_eq_true rfl) mrec rfl rfl (Nat.le_of_ble_eq_true rfl) rfl rfl rfl ?_
        refine z_ifB_eq C 118 114 dX7_about_111 (by decide) rfl (fun c10 => ?_) (fun c10 => ?_)
        · skip
          refine z_iconst C 119 dX7_about_118 rfl ?_
          exact z_iret C dX7_about_119 rfl (Nat.le_of_ble_eq_true rfl) (Nat.le_of_ble_eq_true rfl) ⟨congrArg (fun z => some (Value.int (iI z))) (by clear C hκ hκl hS hB hB1 hB2 hB3 hB4 hB5 hB6 hC hD hw; first | (simp_all [abI, bI]; done) | (simp_all [abI, bI] <;> omega) | (grind [abI, bI]) | (simp [abI, bI] at * <;> omega)), rfl⟩
        · skip
          refine z_iconst C 115 dX7_about_114 rfl ?_
          refine z_goto C 119 dX7_about_115 (by decide) ?_
          exact z_iret C dX7_about_119 rfl (Nat.le_of_ble_eq_true rfl) (Nat.le_of_ble_eq_true rfl) ⟨congrArg (fun z => some (Value.int (iI z))) (by clear C hκ hκl hS hB hB1 hB2 hB3 hB4 hB5 hB6 hC hD hw; first | (simp_all [abI, bI]; done) | (simp_all [abI, bI] <;> omega) | (grind [abI, bI]) | (simp [abI, bI] at * <;> omega)), rfl⟩
      · skip
        refine z_tsOut C 120 dX7_about_23 c3r c3 (by decide) ?_
        refine z_iload_n C 121 2 dX7_about_120 rfl rfl ?_
        refine z_bipush C 123 dX7_about_121 (by decide) rfl ?_
        refine z_isub C 124 dX7_about_123 rfl ?_
        refine z_aload_n C 125 0 dX7_about_124 rfl rfl ?_
        refine m_geta C hκ 128 6 (by decide) rfl q2001 rfl dX7_about_125 rfl ?_
        refine z_iload_n C 129 1 dX7_about_128 rfl rfl ?_
        obtain ⟨f11a, f11b, f11c, f11d, f11e, f11f, f11g, f11h⟩ := hS.T (show 0 ≤ t by omega) (by omega)
        refine m_iald (len := 60) C hκ hD 130 6 (by decide) rfl rfl (by omega) (by omega) dX7_about_129 rfl ?_
        refine z_icmp_ge C 149 133 dX7_about_130 (by decide) ⟨by omega, by omega⟩ (hw.r _ _ rfl) rfl (fun c12 => ?_) (fun c12 => ?_)
        · skip
          refine z_iconst C 150 dX7_about_149 rfl ?_
          exact z_iret C dX7_about_150 rfl (Nat.le_of_ble_eq_true rfl) (Nat.le_of_ble_eq_true rfl) ⟨congrArg (fun z => some (Value.int (iI z))) (by clear C hκ hκl hS hB hB1 hB2 hB3 hB4 hB5 hB6 hC hD hw f11a f11b f11c f11d f11e f11f f11g f11h; first | (simp_all [abI, bI]; done) | (simp_all [abI, bI] <;> omega) | (grind [abI, bI]) | (simp [abI, bI] at * <;> omega)), rfl⟩
        · skip
          refine z_aload_n C 134 0 dX7_about_133 rfl rfl ?_
          refine m_geta C hκ 137 7 (by decide) rfl q2002 rfl dX7_about_134 rfl ?_
          refine z_iconst C 138 dX7_about_137 rfl ?_
          refine z_iload_n C 139 1 dX7_about_138 rfl rfl ?_
          refine z_imul C 140 dX7_about_139 rfl ?_
          refine z_iload_n C 141 2 dX7_about_140 rfl rfl ?_
          refine z_iadd C 142 dX7_about_141 rfl ?_
          refine z_bipush C 144 dX7_about_142 (by decide) rfl ?_
          refine z_isub C 145 dX7_about_144 rfl ?_
          refine m_iald (len := 180) C hκ hD 146 7 (by decide) rfl rfl (by omega) (by omega) dX7_about_145 rfl ?_
          refine z_goto C 150 dX7_about_146 (by decide) ?_
          exact z_iret C dX7_about_150 rfl (Nat.le_of_ble_eq_true rfl) (Nat.le_of_ble_eq_true rfl) ⟨congrArg (fun z => some (Value.int (iI z))) (by clear C hκ hκl hS hB hB1 hB2 hB3 hB4 hB5 hB6 hC hD hw f11a f11b f11c f11d f11e f11f f11g f11h; first | (simp_all [abI, bI]; done) | (simp_all [abI, bI] <;> omega) | (grind [abI, bI]) | (simp [abI, bI] at * <;> omega)), rfl⟩
    · skip
      have c2b : ¬ (((0) ≤ (k) ∧ (k) ≤ (9))) := of_decide_eq_false c2
      refine z_iconst C 21 dX7_about_20 rfl ?_
      exact z_iret C dX7_about_21 rfl (Nat.le_of_ble_eq_true rfl) (Nat.le_of_ble_eq_true rfl) ⟨congrArg (fun z => some (Value.int (iI z))) (by clear C hκ hκl hS hB hB1 hB2 hB3 hB4 hB5 hB6 hC hD hw; first | (simp_all [abI, bI]; done) | (simp_all [abI, bI] <;> omega) | (grind [abI, bI]) | (simp [abI, bI] at * <;> omega)), rfl⟩
set_option maxRecDepth 100000 in
theorem k7_ancestor {l : Launch} {θ : zTh} {N : zMap} {am : Nat} {ar : Nat → Nat} {w : mW} (hD : mDis am ar) (hw : mWF w) (t : Int) (i : Int) (r_t : inR t) (r_i : inR i) (hS : mS w)  : ZF θ l yX7_ancestor cX7_ancestor 3 (some .int) ⟨2, 0, 0, 46⟩ [.ref (am), .int (iI (t)), .int (iI (i))] (mP θ am ar w N) (some (.int (iI (acI w t i)))) (mP θ am ar w N) := by
  refine z_start (own := RX7) (nm := "ancestor") pnX7 rfl rfl (Nat.le_of_ble_eq_true rfl) ?_
  intro κ hκ hκl C
  change Z κ (mP θ am ar w N) 0 0 0 [(0, .ref (am)), (1, .int (iI (t))), (2, .int (iI (i)))] []
  have hB := hS.B
  obtain ⟨hB1, hB2, hB3, hB4, hB5, hB6⟩ := hS.B
  have hC := hS.C
  refine z_aload_n C 1 0 dX7_ancestor_0 rfl rfl ?_
  refine z_iload_n C 2 1 dX7_ancestor_1 rfl rfl ?_
  refine z_callVF (n' := 0) (k' := 0) (As := [.int (iI (t))]) (rest := []) C hκ hκl 5 (k7_isType hD hw (t) r_t hB) dX7_ancestor_2 q2160 q2162 qs40 q97 q2163 znX7_isType (Nat.le_of_ble_eq_true rfl) (Nat.le_of_ble_eq_true rfl) (Nat.le_of_ble_eq_true rfl) (Nat.le_of_ble_eq_true rfl) mrec rfl rfl (Nat.le_of_ble_eq_true rfl) rfl rfl rfl ?_
  refine z_ifB_eq C 40 8 dX7_ancestor_5 (by decide) rfl (fun c1 => ?_) (fun c1 => ?_)
  · skip
    have c1b : ¬ (0 ≤ (t) ∧ (t) < w 0 0) := of_decide_eq_false c1
    refine z_iconst C 41 dX7_ancestor_40 rfl ?_
    exact z_iret C dX7_ancestor_41 rfl (Nat.le_of_ble_eq_true rfl) (Nat.le_of_ble_eq_true rfl) ⟨congrArg (fun z => some (Value.int (iI z))) (by clear C hκ hκl hS hB hB1 hB2 hB3 hB4 hB5 hB6 hC hD hw; first | (simp_all [acI]; done) | (simp_all [acI] <;> omega) | (grind [acI]) | (simp [acI] at * <;> omega)), rfl⟩
  · skip
    have c1b : (0 ≤ (t) ∧ (t) < w 0 0) := of_decide_eq_true c1
    refine z_iload_n C 9 2 dX7_ancestor_8 rfl rfl ?_
    refine z_i2l C 10 dX7_ancestor_9 r_i rfl ?_
    refine z_lconst (x := 0) C 11 dX7_ancestor_10 rfl rfl ?_
    refine z_aload_n C 12 0 dX7_ancestor_11 rfl rfl ?_
    refine m_geta C hκ 15 10 (by decide) rfl q2005 rfl dX7_ancestor_12 rfl ?_
    refine z_iload_n C 16 1 dX7_ancestor_15 rfl rfl ?_
    obtain ⟨f2a, f2b, f2c, f2d, f2e, f2f, f2g, f2h⟩ := hS.T (show 0 ≤ t by omega) (by omega)
    refine m_iald (len := 60) C hκ hD 17 10 (by decide) rfl rfl (by omega) (by omega) dX7_ancestor_16 rfl ?_
    refine z_iconst C 18 dX7_ancestor_17 rfl ?_
    refine z_isub C 19 dX7_ancestor_18 rfl ?_
    refine z_i2l C 20 dX7_ancestor_19 ⟨by omega, by omega⟩ rfl ?_
    refine z_callSF (n' := 0) (k' := 0) (As := [.long (lI (i)), .long (lI (0)), .long (lI ((w 10 (t)) - (1)))]) (rest := []) C hκ hκl 23 (k7_in (i) (0) ((w 10 (t)) - (1)) (inR_L r_i) ⟨by decide, by decide⟩ (inR_L ⟨by omega, by omega⟩)) dX7_ancestor_20 q2164 q2165 q97 q2166 znX7_in (Nat.le_of_ble_eq_true rfl) (Nat.le_of_ble_eq_true rfl) (Nat.le_of_ble_eq_true rfl) (Nat.le_of_ble_eq_true rfl) rfl (Nat.le_of_ble_eq_true rfl) rfl rfl rfl ?_
    refine z_ifB_eq C 40 26 dX7_ancestor_23 (by decide) rfl (fun c3 => ?_) (fun c3 => ?_)
    · skip
      have c3b : ¬ (((0) ≤ (i) ∧ (i) ≤ ((w 10 (t)) - (1)))) := of_decide_eq_false c3
      refine z_iconst C 41 dX7_ancestor_40 rfl ?_
      exact z_iret C dX7_ancestor_41 rfl (Nat.le_of_ble_eq_true rfl) (Nat.le_of_ble_eq_true rfl) ⟨congrArg (fun z => some (Value.int (iI z))) (by clear C hκ hκl hS hB hB1 hB2 hB3 hB4 hB5 hB6 hC hD hw f2a f2b f2c f2d f2e f2f f2g f2h; first | (simp_all [acI]; done) | (simp_all [acI] <;> omega) | (grind [acI]) | (simp [acI] at * <;> omega)), rfl⟩
    · skip
      have c3b : (((0) ≤ (i) ∧ (i) ≤ ((w 10 (t)) - (1)))) := of_decide_eq_true c3
      refine z_aload_n C 27 0 dX7_ancestor_26 rfl rfl ?_
      refine m_geta C hκ 30 9 (by decide) rfl q2004 rfl dX7_ancestor_27 rfl ?_
      refine z_bipush C 32 dX7_ancestor_30 (by decide) rfl ?_
      refine z_iload_n C 33 1 dX7_ancestor_32 rfl rfl ?_
      refine z_imul C 34 dX7_ancestor_33 rfl ?_
      refine z_iload_n C 35 2 dX7_ancestor_34 rfl rfl ?_
      refine z_iadd C 36 dX7_ancestor_35 rfl ?_
      refine m_iald (len := 3600) C hκ hD 37 9 (by decide) rfl rfl (by omega) (by omega) dX7_ancestor_36 rfl ?_
      refine z_goto C 41 dX7_ancestor_37 (by decide) ?_
      exact z_iret C dX7_ancestor_41 rfl (Nat.le_of_ble_eq_true rfl) (Nat.le_of_ble_eq_true rfl) ⟨congrArg (fun z => some (Value.int (iI z))) (by clear C hκ hκl hS hB hB1 hB2 hB3 hB4 hB5 hB6 hC hD hw f2a f2b f2c f2d f2e f2f f2g f2h; first | (simp_all [acI]; done) | (simp_all [acI] <;> omega) | (grind [acI]) | (simp [acI] at * <;> omega)), rfl⟩
set_option maxRecDepth 100000 in
theorem k7_is {l : Launch} {θ : zTh} {N : zMap} {am : Nat} {ar : Nat → Nat} {w : mW} (hD : mDis am ar) (hw : mWF w) (a : Int) (b : Int) (r_a : inR a) (r_b : inR b) (hS : mS w)  : ZF θ l yX7_is cX7_is 3 (some .int) ⟨2, 0, 0, 46⟩ [.ref (am), .int (iI (a)), .int (iI (b))] (mP θ am ar w N) (some (.int (iI (isI w a b)))) (mP θ am ar w N) := by
  refine z_start (own := RX7) (nm := "is") pnX7 rfl rfl (Nat.le_of_ble_eq_true rfl) ?_
  intro κ hκ hκl C
  change Z κ (mP θ am ar w N) 0 0 0 [(0, .ref (am)), (1, .int (iI (a))), (2, .int (iI (b)))] []
  have hB := hS.B
  obtain ⟨hB1, hB2, hB3, hB4, hB5, hB6⟩ := hS.B
  have hC := hS.C
  refine z_aload_n C 1 0 dX7_is_0 rfl rfl ?_
  refine z_iload_n C 2 1 dX7_is_1 rfl rfl ?_
  refine z_callVF (n' := 0) (k' := 0) (As := [.int (iI (a))]) (rest := []) C hκ hκl 5 (k7_isType hD hw (a) r_a hB) dX7_is_2 q2160 q2162 qs40 q97 q2163 znX7_isType (Nat.le_of_ble_eq_true rfl) (Nat.le_of_ble_eq_true rfl) (Nat.le_of_ble_eq_true rfl) (Nat.le_of_ble_eq_true rfl) mrec rfl rfl (Nat.le_of_ble_eq_true rfl) rfl rfl rfl ?_
  refine z_ifB_eq C 16 8 dX7_is_5 (by decide) rfl (fun c1 => ?_) (fun c1 => ?_)
  · skip
    have c1b : ¬ (0 ≤ (a) ∧ (a) < w 0 0) := of_decide_eq_false c1
    refine z_iconst C 17 dX7_is_16 rfl ?_
    exact z_iret C dX7_is_17 rfl (Nat.le_of_ble_eq_true rfl) (Nat.le_of_ble_eq_true rfl) ⟨congrArg (fun z => some (Value.int (iI z))) (by clear C hκ hκl hS hB hB1 hB2 hB3 hB4 hB5 hB6 hC hD hw; first | (simp_all [isI, bI]; done) | (simp_all [isI, bI] <;> omega) | (grind [isI, bI]) | (simp [isI, bI] at * <;> omega)), rfl⟩
  · skip
    have c1b : (0 ≤ (a) ∧ (a) < w 0 0) := of_decide_eq_true c1
    refine z_aload_n C 9 0 dX7_is_8 rfl rfl ?_
    refine z_iload_n C 10 2 dX7_is_9 rfl rfl ?_
    refine z_callVF (n' := 0) (k' := 0) (As := [.int (iI (b))]) (rest := []) C hκ hκl 13 (k7_isType hD hw (b) r_b hB) dX7_is_10 q2160 q2162 qs40 q97 q2163 znX7_isType (Nat.le_of_ble_eq_true rfl) (Nat.le_of_ble_eq_true rfl) (Nat.le_of_ble_eq_true rfl) (Nat.le_of_ble_eq_true rfl) mrec rfl rfl (Nat.le_of_ble_eq_true rfl) rfl rfl rfl ?_
    refine z_ifB_ne C 18 16 dX7_is_13 (by decide) rfl (fun c2 => ?_) (fun c2 => ?_)
    · skip
      have c2b : (0 ≤ (b) ∧ (b) < w 0 0) := of_decide_eq_true c2
      refine z_aload_n C 19 0 dX7_is_18 rfl rfl ?_
      refine z_iload_n C 20 1 dX7_is_19 rfl rfl ?_
      refine z_iload_n C 21 2 dX7_is_20 rfl rfl ?_
      refine z_callVF (n' := 0) (k' := 0) (As := [.int (iI (a)), .int (iI (b))]) (rest := []) C hκ hκl 24 (k7_goesInto hD hw (a) (b) r_a r_b (by omega) (by omega)) dX7_is_21 q2209 q2211 qs45 q97 q2212 znX7_goesInto (Nat.le_of_ble_eq_true rfl) (Nat.le_of_ble_eq_true rfl) (Nat.le_of_ble_eq_true rfl) (Nat.le_of_ble_eq_true rfl) mrec rfl rfl (Nat.le_of_ble_eq_true rfl) rfl rfl rfl ?_
      refine z_ifB_eq C 31 27 dX7_is_24 (by decide) rfl (fun c3 => ?_) (fun c3 => ?_)
      · skip
        refine z_iconst C 32 dX7_is_31 rfl ?_
        exact z_iret C dX7_is_32 rfl (Nat.le_of_ble_eq_true rfl) (Nat.le_of_ble_eq_true rfl) ⟨congrArg (fun z => some (Value.int (iI z))) (by clear C hκ hκl hS hB hB1 hB2 hB3 hB4 hB5 hB6 hC hD hw; first | (simp_all [isI, bI]; done) | (simp_all [isI, bI] <;> omega) | (grind [isI, bI]) | (simp [isI, bI] at * <;> omega)), rfl⟩
      · skip
        refine z_iconst C 28 dX7_is_27 rfl ?_
        refine z_goto C 32 dX7_is_28 (by decide) ?_
        exact z_iret C dX7_is_32 rfl (Nat.le_of_ble_eq_true rfl) (Nat.le_of_ble_eq_true rfl) ⟨congrArg (fun z => some (Value.int (iI z))) (by clear C hκ hκl hS hB hB1 hB2 hB3 hB4 hB5 hB6 hC hD hw; first | (simp_all [isI, bI]; done) | (simp_all [isI, bI] <;> omega) | (grind [isI, bI]) | (simp [isI, bI] at * <;> omega)), rfl⟩
    · skip
      have c2b : ¬ (0 ≤ (b) ∧ (b) < w 0 0) := of_decide_eq_false c2
      refine z_iconst C 17 dX7_is_16 rfl ?_
      exact z_iret C dX7_is_17 rfl (Nat.le_of_ble_eq_true rfl) (Nat.le_of_ble_eq_true rfl) ⟨congrArg (fun z => some (Value.int (iI z))) (by clear C hκ hκl hS hB hB1 hB2 hB3 hB4 hB5 hB6 hC hD hw; first | (simp_all [isI, bI]; done) | (simp_all [isI, bI] <;> omega) | (grind [isI, bI]) | (simp [isI, bI] at * <;> omega)), rfl⟩
set_option maxRecDepth 100000 in
theorem k7_member {l : Launch} {θ : zTh} {N : zMap} {am : Nat} {ar : Nat → Nat} {w : mW} (hD : mDis am ar) (hw : mWF w) (m : Int) (k : Int) (r_m : inR m) (r_k : inR k) (hS : mS w)  : ZF θ l yX7_member cX7_member 3 (some .int) ⟨2, 0, 0, 46⟩ [.ref (am), .int (iI (m)), .int (iI (k))] (mP θ am ar w N) (some (.int (iI (mbI w m k)))) (mP θ am ar w N) := by
  refine z_start (own := RX7) (nm := "member") pnX7 rfl rfl (Nat.le_of_ble_eq_true rfl) ?_
  intro κ hκ hκl C
  change Z κ (mP θ am ar w N) 0 0 0 [(0, .ref (am)), (1, .int (iI (m))), (2, .int (iI (k)))] []
  have hB := hS.B
  obtain ⟨hB1, hB2, hB3, hB4, hB5, hB6⟩ := hS.B
  have hC := hS.C
  refine z_aload_n C 1 0 dX7_member_0 rfl rfl ?_
  refine z_iload_n C 2 1 dX7_member_1 rfl rfl ?_
  refine z_callVF (n' := 0) (k' := 0) (As := [.int (iI (m))]) (rest := []) C hκ hκl 5 (k7_isMember hD hw (m) r_m hB) dX7_member_2 q2259 q2261 qs50 q97 q2262 znX7_isMember (Nat.le_of_ble_eq_true rfl) (Nat.le_of_ble_eq_true rfl) (Nat.le_of_ble_eq_true rfl) (Nat.le_of_ble_eq_true rfl) mrec rfl rfl (Nat.le_of_ble_eq_true rfl) rfl rfl rfl ?_
  refine z_ifB_eq C 20 8 dX7_member_5 (by decide) rfl (fun c1 => ?_) (fun c1 => ?_)
  · skip
    have c1b : ¬ (0 ≤ (m) ∧ (m) < w 11 0) := of_decide_eq_false c1
    refine z_bipush C 22 dX7_member_20 (by decide) rfl ?_
    exact z_iret C dX7_member_22 rfl (Nat.le_of_ble_eq_true rfl) (Nat.le_of_ble_eq_true rfl) ⟨congrArg (fun z => some (Value.int (iI z))) (by clear C hκ hκl hS hB hB1 hB2 hB3 hB4 hB5 hB6 hC hD hw; first | (simp_all [mbI, bI]; done) | (simp_all [mbI, bI] <;> omega) | (grind [mbI, bI]) | (simp [mbI, bI] at * <;> omega)), rfl⟩
  · skip
    have c1b : (0 ≤ (m) ∧ (m) < w 11 0) := of_decide_eq_true c1
    refine z_iload_n C 9 2 dX7_member_8 rfl rfl ?_
    refine z_i2l C 10 dX7_member_9 r_k rfl ?_
    refine z_lconst (x := 0) C 11 dX7_member_10 rfl rfl ?_
    refine z_ldc2 (z := 10) C 14 dX7_member_11 q2328 (by decide) rfl ?_
    refine z_callSF (n' := 0) (k' := 0) (As := [.long (lI (k)), .long (lI (0)), .long (lI (10))]) (rest := []) C hκ hκl 17 (k7_in (k) (0) (10) (inR_L r_k) ⟨by decide, by decide⟩ ⟨by decide, by decide⟩) dX7_member_14 q2164 q2165 q97 q2166 znX7_in (Nat.le_of_ble_eq_true rfl) (Nat.le_of_ble_eq_true rfl) (Nat.le_of_ble_eq_true rfl) (Nat.le_of_ble_eq_true rfl) rfl (Nat.le_of_ble_eq_true rfl) rfl rfl rfl ?_
    refine z_ifB_ne C 23 20 dX7_member_17 (by decide) rfl (fun c2 => ?_) (fun c2 => ?_)
    · skip
      have c2b : (((0) ≤ (k) ∧ (k) ≤ (10))) := of_decide_eq_true c2
      refine z_iload_n C 24 2 dX7_member_23 rfl rfl ?_
      have c3r : inR (k) := r_k
      rcases (show k = 0 ∨ k = 1 ∨ k = 2 ∨ k = 3 ∨ k = 4 ∨ k = 5 ∨ k = 6 ∨ k = 7 ∨ k = 8 ∨ k = 9 ∨ k = 10 ∨ (k < 0 ∨ 10 < k) by omega) with c3 | c3 | c3 | c3 | c3 | c3 | c3 | c3 | c3 | c3 | c3 | c3
      · skip
        refine z_tsIn C (k) 84 (off := 60) dX7_member_24 c3r (by omega) (by omega) (by rw [c3]; rfl) (by decide) ?_
        refine z_aload_n C 85 0 dX7_member_84 rfl rfl ?_
        refine m_geta C hκ 88 13 (by decide) rfl q2008 rfl dX7_member_85 rfl ?_
        refine z_iload_n C 89 1 dX7_member_88 rfl rfl ?_
        obtain ⟨f4a, f4b, f4c, f4d⟩ := hS.M (show 0 ≤ m by omega) (by omega)
        refine m_iald (len := 100) C hκ hD 90 13 (by decide) rfl rfl (by omega) (by omega) dX7_member_89 rfl ?_
        exact z_iret C dX7_member_90 rfl (Nat.le_of_ble_eq_true rfl) (Nat.le_of_ble_eq_true rfl) ⟨congrArg (fun z => some (Value.int (iI z))) (by clear C hκ hκl hS hB hB1 hB2 hB3 hB4 hB5 hB6 hC hD hw f4a f4b f4c f4d; first | (simp_all [mbI, bI]; done) | (simp_all [mbI, bI] <;> omega) | (grind [mbI, bI]) | (simp [mbI, bI] at * <;> omega)), rfl⟩
      · skip
        refine z_tsIn C (k) 91 (off := 67) dX7_member_24 c3r (by omega) (by omega) (by rw [c3]; rfl) (by decide) ?_
        refine z_aload_n C 92 0 dX7_member_91 rfl rfl ?_
        refine m_geta C hκ 95 14 (by decide) rfl q2009 rfl dX7_member_92 rfl ?_
        refine z_iload_n C 96 1 dX7_member_95 rfl rfl ?_
        obtain ⟨f5a, f5b, f5c, f5d⟩ := hS.M (show 0 ≤ m by omega) (by omega)
        refine m_iald (len := 100) C hκ hD 97 14 (by decide) rfl rfl (by omega) (by omega) dX7_member_96 rfl ?_
        exact z_iret C dX7_member_97 rfl (Nat.le_of_ble_eq_true rfl) (Nat.le_of_ble_eq_true rfl) ⟨congrArg (fun z => some (Value.int (iI z))) (by clear C hκ hκl hS hB hB1 hB2 hB3 hB4 hB5 hB6 hC hD hw f5a f5b f5c f5d; first | (simp_all [mbI, bI]; done) | (simp_all [mbI, bI] <;> omega) | (grind [mbI, bI]) | (simp [mbI, bI] at * <;> omega)), rfl⟩
      · skip
        refine z_tsIn C (k) 98 (off := 74) dX7_member_24 c3r (by omega) (by omega) (by rw [c3]; rfl) (by decide) ?_
        refine z_aload_n C 99 0 dX7_member_98 rfl rfl ?_
        refine m_geta C hκ 102 15 (by decide) rfl q2010 rfl dX7_member_99 rfl ?_
        refine z_iload_n C 103 1 dX7_member_102 rfl rfl ?_
        obtain ⟨f6a, f6b, f6c, f6d⟩ := hS.M (show 0 ≤ m by omega) (by omega)
        refine m_iald (len := 100) C hκ hD 104 15 (by decide) rfl rfl (by omega) (by omega) dX7_member_103 rfl ?_
        exact z_iret C dX7_member_104 rfl (Nat.le_of_ble_eq_true rfl) (Nat.le_of_ble_eq_true rfl) ⟨congrArg (fun z => some (Value.int (iI z))) (by clear C hκ hκl hS hB hB1 hB2 hB3 hB4 hB5 hB6 hC hD hw f6a f6b f6c f6d; first | (simp_all [mbI, bI]; done) | (simp_all [mbI, bI] <;> omega) | (grind [mbI, bI]) | (simp [mbI, bI] at * <;> omega)), rfl⟩
      · skip
        refine z_tsIn C (k) 105 (off := 81) dX7_member_24 c3r (by omega) (by omega) (by rw [c3]; rfl) (by decide) ?_
        refine z_aload_n C 106 0 dX7_member_105 rfl rfl ?_
        refine m_geta C hκ 109 16 (by decide) rfl q2011 rfl dX7_member_106 rfl ?_
        refine z_iload_n C 110 1 dX7_member_109 rfl rfl ?_
        obtain ⟨f7a, f7b, f7c, f7d⟩ := hS.M (show 0 ≤ m by omega) (by omega)
        refine m_bald (len := 100) C hκ hD hw 111 16 (by decide) rfl rfl rfl (by omega) (by omega) dX7_member_110 rfl ?_
        refine z_ifB_eq C 118 114 dX7_member_111 (by decide) rfl (fun c8 => ?_) (fun c8 => ?_)
        · skip
          have c8b : ¬ (w 16 (m) = 1) := of_decide_eq_false c8
          refine z_iconst C 119 dX7_member_118 rfl ?_
          exact z_iret C dX7_member_119 rfl (Nat.le_of_ble_eq_true rfl) (Nat.le_of_ble_eq_true rfl) ⟨congrArg (fun z => some (Value.int (iI z))) (by clear C hκ hκl hS hB hB1 hB2 hB3 hB4 hB5 hB6 hC hD hw f7a f7b f7c f7d; first | (simp_all [mbI, bI]; done) | (simp_all [mbI, bI] <;> omega) | (grind [mbI, bI]) | (simp [mbI, bI] at * <;> omega)), rfl⟩
        · skip
          have c8b : (w 16 (m) = 1) := of_decide_eq_true c8
          refine z_iconst C 115 dX7_member_114 rfl ?_
          refine z_goto C 119 dX7_member_115 (by decide) ?_
          exact z_iret C dX7_member_119 rfl (Nat.le_of_ble_eq_true rfl) (Nat.le_of_ble_eq_true rfl) ⟨congrArg (fun z => some (Value.int (iI z))) (by clear C hκ hκl hS hB hB1 hB2 hB3 hB4 hB5 hB6 hC hD hw f7a f7b f7c f7d; first | (simp_all [mbI, bI]; done) | (simp_all [mbI, bI] <;> omega) | (grind [mbI, bI]) | (simp [mbI, bI] at * <;> omega)), rfl⟩
      · skip
        refine z_tsIn C (k) 120 (off := 96) dX7_member_24 c3r (by omega) (by omega) (by rw [c3]; rfl) (by decide) ?_
        refine z_aload_n C 121 0 dX7_member_120 rfl rfl ?_
        refine m_geta C hκ 124 17 (by decide) rfl q2012 rfl dX7_member_121 rfl ?_
        refine z_iload_n C 125 1 dX7_member_124 rfl rfl ?_
        obtain ⟨f9a, f9b, f9c, f9d⟩ := hS.M (show 0 ≤ m by omega) (by omega)
        refine m_iald (len := 100) C hκ hD 126 17 (by decide) rfl rfl (by omega) (by omega) dX7_member_125 rfl ?_
        exact z_iret C dX7_member_126 rfl (Nat.le_of_ble_eq_true rfl) (Nat.le_of_ble_eq_true rfl) ⟨congrArg (fun z => some (Value.int (iI z))) (by clear C hκ hκl hS hB hB1 hB2 hB3 hB4 hB5 hB6 hC hD hw f9a f9b f9c f9d; first | (simp_all [mbI, bI]; done) | (simp_all [mbI, bI] <;> omega) | (grind [mbI, bI]) | (simp [mbI, bI] at * <;> omega)), rfl⟩
      · skip
        refine z_tsIn C (k) 127 (off := 103) dX7_member_24 c3r (by omega) (by omega) (by rw [c3]; rfl) (by decide) ?_
        refine z_aload_n C 128 0 dX7_member_127 rfl rfl ?_
        refine m_geta C hκ 131 16 (by decide) rfl q2011 rfl dX7_member_128 rfl ?_
        refine z_iload_n C 132 1 dX7_member_131 rfl rfl ?_
        obtain ⟨f10a, f10b, f10c, f10d⟩ := hS.M (show 0 ≤ m by omega) (by omega)
        refine m_bald (len := 100) C hκ hD hw 133 16 (by decide) rfl rfl rfl (by omega) (by omega) dX7_member_132 rfl ?_
        refine z_ifB_eq C 140 136 dX7_member_133 (by decide) rfl (fun c11 => ?_) (fun c11 => ?_)
        · skip
          have c11b : ¬ (w 16 (m) = 1) := of_decide_eq_false c11
          refine z_aload_n C 141 0 dX7_member_140 rfl rfl ?_
          refine m_geta C hκ 144 18 (by decide) rfl q2013 rfl dX7_member_141 rfl ?_
          refine z_iload_n C 145 1 dX7_member_144 rfl rfl ?_
          refine m_iald (len := 100) C hκ hD 146 18 (by decide) rfl rfl (by omega) (by omega) dX7_member_145 rfl ?_
          exact z_iret C dX7_member_146 rfl (Nat.le_of_ble_eq_true rfl) (Nat.le_of_ble_eq_true rfl) ⟨congrArg (fun z => some (Value.int (iI z))) (by clear C hκ hκl hS hB hB1 hB2 hB3 hB4 hB5 hB6 hC hD hw f10a f10b f10c f10d; first | (simp_all [mbI, bI]; done) | (simp_all [mbI, bI] <;> omega) | (grind [mbI, bI]) | (simp [mbI, bI] at * <;> omega)), rfl⟩
        · skip
          have c11b : (w 16 (m) = 1) := of_decide_eq_true c11
          refine z_iconst C 137 dX7_member_136 rfl ?_
          refine z_goto C 146 dX7_member_137 (by decide) ?_
          exact z_iret C dX7_member_146 rfl (Nat.le_of_ble_eq_true rfl) (Nat.le_of_ble_eq_true rfl) ⟨congrArg (fun z => some (Value.int (iI z))) (by clear C hκ hκl hS hB hB1 hB2 hB3 hB4 hB5 hB6 hC hD hw f10a f10b f10c f10d; first | (simp_all [mbI, bI]; done) | (simp_all [mbI, bI] <;> omega) | (grind [mbI, bI]) | (simp [mbI, bI] at * <;> omega)), rfl⟩
      · skip
        refine z_tsIn C (k) 192 (off := 168) dX7_member_24 c3r (by omega) (by omega) (by rw [c3]; rfl) (by decide) ?_
        refine z_iload_n C 193 2 dX7_member_192 rfl rfl ?_
        refine z_bipush C 195 dX7_member_193 (by decide) rfl ?_
        refine z_isub C 196 dX7_member_195 rfl ?_
        refine z_aload_n C 197 0 dX7_member_196 rfl rfl ?_
        refine m_geta C hκ 200 18 (by decide) rfl q2013 rfl dX7_member_197 rfl ?_
        refine z_iload_n C 201 1 dX7_member_200 rfl rfl ?_
        obtain ⟨f12a, f12b, f12c, f12d⟩ := hS.M (show 0 ≤ m by omega) (by omega)
        refine m_iald (len := 100) C hκ hD 202 18 (by decide) rfl rfl (by omega) (by omega) dX7_member_201 rfl ?_
        refine z_icmp_ge C 221 205 dX7_member_202 (by decide) ⟨by omega, by omega⟩ (hw.r _ _ rfl) rfl (fun c13 => ?_) (fun c13 => ?_)
        · skip
          refine z_iconst C 222 dX7_member_221 rfl ?_
          exact z_iret C dX7_member_222 rfl (Nat.le_of_ble_eq_true rfl) (Nat.le_of_ble_eq_true rfl) ⟨congrArg (fun z => some (Value.int (iI z))) (by clear C hκ hκl hS hB hB1 hB2 hB3 hB4 hB5 hB6 hC hD hw f12a f12b f12c f12d; first | (simp_all [mbI, bI]; done) | (simp_all [mbI, bI] <;> omega) | (grind [mbI, bI]) | (simp [mbI, bI] at * <;> omega)), rfl⟩
        · skip
          refine z_aload_n C 206 0 dX7_member_205 rfl rfl ?_
          refine m_geta C hκ 209 19 (by decide) rfl q2014 rfl dX7_member_206 rfl ?_
          refine z_iconst C 210 dX7_member_209 rfl ?_
          refine z_iload_n C 211 1 dX7_member_210 rfl rfl ?_
          refine z_imul C 212 dX7_member_211 rfl ?_
          refine z_iload_n C 213 2 dX7_member_212 rfl rfl ?_
          refine z_iadd C 214 dX7_member_213 rfl ?_
          refine z_bipush C 216 dX7_member_214 (by decide) rfl ?_
          refine z_isub C 217 dX7_member_216 rfl ?_
          refine m_iald (len := 300) C hκ hD 218 19 (by decide) rfl rfl (by omega) (by omega) dX7_member_217 rfl ?_
          refine z_goto C 222 dX7_member_218 (by decide) ?_
          exact z_iret C dX7_member_222 rfl (Nat.le_of_ble_eq_true rfl) (Nat.le_of_ble_eq_true rfl) ⟨congrArg (fun z => some (Value.int (iI z))) (by clear C hκ hκl hS hB hB1 hB2 hB3 hB4 hB5 hB6 hC hD hw f12a f12b f12c f12d; first | (simp_all [mbI, bI]; done) | (simp_all [mbI, bI] <;> omega) | (grind [mbI, bI]) | (simp [mbI, bI] at * <;> omega)), rfl⟩
      · skip
        refine z_tsIn C (k) 192 (off := 168) dX7_member_24 c3r (by omega) (by omega) (by rw [c3]; rfl) (by decide) ?_
        refine z_iload_n C 193 2 dX7_member_192 rfl rfl ?_
        refine z_bipush C 195 dX7_member_193 (by decide) rfl ?_
        refine z_isub C 196 dX7_member_195 rfl ?_
        refine z_aload_n C 197 0 dX7_member_196 rfl rfl ?_
        refine m_geta C hκ 200 18 (by decide) rfl q2013 rfl dX7_member_197 rfl ?_
        refine z_iload_n C 201 1 dX7_member_200 rfl rfl ?_
        obtain ⟨f14a, f14b, f14c, f14d⟩ := hS.M (show 0 ≤ m by omega) (by omega)
        refine m_iald (len := 100) C hκ hD 202 18 (by decide) rfl rfl (by omega) (by omega) dX7_member_201 rfl ?_
        refine z_icmp_ge C 221 205 dX7_member_202 (by decide) ⟨by omega, by omega⟩ (hw.r _ _ rfl) rfl (fun c15 => ?_) (fun c15 => ?_)
        · skip
          refine z_iconst C 222 dX7_member_221 rfl ?_
          exact z_iret C dX7_member_222 rfl (Nat.le_of_ble_eq_true rfl) (Nat.le_of_ble_eq_true rfl) ⟨congrArg (fun z => some (Value.int (iI z))) (by clear C hκ hκl hS hB hB1 hB2 hB3 hB4 hB5 hB6 hC hD hw f14a f14b f14c f14d; first | (simp_all [mbI, bI]; done) | (simp_all [mbI, bI] <;> omega) | (grind [mbI, bI]) | (simp [mbI, bI] at * <;> omega)), rfl⟩
        · skip
          refine z_aload_n C 206 0 dX7_member_205 rfl rfl ?_
          refine m_geta C hκ 209 19 (by decide) rfl q2014 rfl dX7_member_206 rfl ?_
          refine z_iconst C 210 dX7_member_209 rfl ?_
          refine z_iload_n C 211 1 dX7_member_210 rfl rfl ?_
          refine z_imul C 212 dX7_member_211 rfl ?_
          refine z_iload_n C 213 2 dX7_member_212 rfl rfl ?_
          refine z_iadd C 214 dX7_member_213 rfl ?_
          refine z_bipush C 216 dX7_member_214 (by decide) rfl ?_
          refine z_isub C 217 dX7_member_216 rfl ?_
          refine m_iald (len := 300) C hκ hD 218 19 (by decide) rfl rfl (by omega) (by omega) dX7_member_217 rfl ?_
          refine z_goto C 222 dX7_member_218 (by decide) ?_
          exact z_iret C dX7_member_222 rfl (Nat.le_of_ble_eq_true rfl) (Nat.le_of_ble_eq_true rfl) ⟨congrArg (fun z => some (Value.int (iI z))) (by clear C hκ hκl hS hB hB1 hB2 hB3 hB4 hB5 hB6 hC hD hw f14a f14b f14c f14d; first | (simp_all [mbI, bI]; done) | (simp_all [mbI, bI] <;> omega) | (grind [mbI, bI]) | (simp [mbI, bI] at * <;> omega)), rfl⟩
      · skip
        refine z_tsIn C (k) 192 (off := 168) dX7_member_24 c3r (by omega) (by omega) (by rw [c3]; rfl) (by decide) ?_
        refine z_iload_n C 193 2 dX7_member_192 rfl rfl ?_
        refine z_bipush C 195 dX7_member_193 (by decide) rfl ?_
        refine z_isub C 196 dX7_member_195 rfl ?_
        refine z_aload_n C 197 0 dX7_member_196 rfl rfl ?_
        refine m_geta C hκ 200 18 (by decide) rfl q2013 rfl dX7_member_197 rfl ?_
        refine z_iload_n C 201 1 dX7_member_200 rfl rfl ?_
        obtain ⟨f16a, f16b, f16c, f16d⟩ := hS.M (show 0 ≤ m by omega) (by omega)
        refine m_iald (len := 100) C hκ hD 202 18 (by decide) rfl rfl (by omega) (by omega) dX7_member_201 rfl ?_
        refine z_icmp_ge C 221 205 dX7_member_202 (by decide) ⟨by omega, by omega⟩ (hw.r _ _ rfl) rfl (fun c17 => ?_) (fun c17 => ?_)
        · skip
          refine z_iconst C 222 dX7_member_221 rfl ?_
          exact z_iret C dX7_member_222 rfl (Nat.le_of_ble_eq_true rfl) (Nat.le_of_ble_eq_true rfl) ⟨congrArg (fun z => some (Value.int (iI z))) (by clear C hκ hκl hS hB hB1 hB2 hB3 hB4 hB5 hB6 hC hD hw f16a f16b f16c f16d; first | (simp_all [mbI, bI]; done) | (simp_all [mbI, bI] <;> omega) | (grind [mbI, bI]) | (simp [mbI, bI] at * <;> omega)), rfl⟩
        · skip
          refine z_aload_n C 206 0 dX7_member_205 rfl rfl ?_
          refine m_geta C hκ 209 19 (by decide) rfl q2014 rfl dX7_member_206 rfl ?_
          refine z_iconst C 210 dX7_member_209 rfl ?_
          refine z_iload_n C 211 1 dX7_member_210 rfl rfl ?_
          refine z_imul C 212 dX7_member_211 rfl ?_
          refine z_iload_n C 213 2 dX7_member_212 rfl rfl ?_
          refine z_iadd C 214 dX7_member_213 rfl ?_
          refine z_bipush C 216 dX7_member_214 (by decide) rfl ?_
          refine z_isub C 217 dX7_member_216 rfl ?_
          refine m_iald (len := 300) C hκ hD 218 19 (by decide) rfl rfl (by omega) (by omega) dX7_member_217 rfl ?_
          refine z_goto C 222 dX7_member_218 (by decide) ?_
          exact z_iret C dX7_member_222 rfl (Nat.le_of_ble_eq_true rfl) (Nat.le_of_ble_eq_true rfl) ⟨congrArg (fun z => some (Value.int (iI z))) (by clear C hκ hκl hS hB hB1 hB2 hB3 hB4 hB5 hB6 hC hD hw f16a f16b f16c f16d; first | (simp_all [mbI, bI]; done) | (simp_all [mbI, bI] <;> omega) | (grind [mbI, bI]) | (simp [mbI, bI] at * <;> omega)), rfl⟩
      · skip
        refine z_tsIn C (k) 147 (off := 123) dX7_member_24 c3r (by omega) (by omega) (by rw [c3]; rfl) (by decide) ?_
        refine z_aload_n C 148 0 dX7_member_147 rfl rfl ?_
        refine m_geta C hκ 151 20 (by decide) rfl q2015 rfl dX7_member_148 rfl ?_
        refine z_iload_n C 152 1 dX7_member_151 rfl rfl ?_
        obtain ⟨f18a, f18b, f18c, f18d⟩ := hS.M (show 0 ≤ m by omega) (by omega)
        refine m_bald (len := 100) C hκ hD hw 153 20 (by decide) rfl rfl rfl (by omega) (by omega) dX7_member_152 rfl ?_
        refine z_ifB_eq C 160 156 dX7_member_153 (by decide) rfl (fun c19 => ?_) (fun c19 => ?_)
        · skip
          have c19b : ¬ (w 20 (m) = 1) := of_decide_eq_false c19
          refine z_iconst C 161 dX7_member_160 rfl ?_
          exact z_iret C dX7_member_161 rfl (Nat.le_of_ble_eq_true rfl) (Nat.le_of_ble_eq_true rfl) ⟨congrArg (fun z => some (Value.int (iI z))) (by clear C hκ hκl hS hB hB1 hB2 hB3 hB4 hB5 hB6 hC hD hw f18a f18b f18c f18d; first | (simp_all [mbI, bI]; done) | (simp_all [mbI, bI] <;> omega) | (grind [mbI, bI]) | (simp [mbI, bI] at * <;> omega)), rfl⟩
        · skip
          have c19b : (w 20 (m) = 1) := of_decide_eq_true c19
          refine z_iconst C 157 dX7_member_156 rfl ?_
          refine z_goto C 161 dX7_member_157 (by decide) ?_
          exact z_iret C dX7_member_161 rfl (Nat.le_of_ble_eq_true rfl) (Nat.le_of_ble_eq_true rfl) ⟨congrArg (fun z => some (Value.int (iI z))) (by clear C hκ hκl hS hB hB1 hB2 hB3 hB4 hB5 hB6 hC hD hw f18a f18b f18c f18d; first | (simp_all [mbI, bI]; done) | (simp_all [mbI, bI] <;> omega) | (grind [mbI, bI]) | (simp [mbI, bI] at * <;> omega)), rfl⟩
      · skip
        refine z_tsIn C (k) 162 (off := 138) dX7_member_24 c3r (by omega) (by omega) (by rw [c3]; rfl) (by decide) ?_
        refine z_aload_n C 163 0 dX7_member_162 rfl rfl ?_
        refine m_geta C hκ 166 16 (by decide) rfl q2011 rfl dX7_member_163 rfl ?_
        refine z_iload_n C 167 1 dX7_member_166 rfl rfl ?_
        obtain ⟨f20a, f20b, f20c, f20d⟩ := hS.M (show 0 ≤ m by omega) (by omega)
        refine m_bald (len := 100) C hκ hD hw 168 16 (by decide) rfl rfl rfl (by omega) (by omega) dX7_member_167 rfl ?_
        refine z_ifB_ne C 181 171 dX7_member_168 (by decide) rfl (fun c21 => ?_) (fun c21 => ?_)
        · skip
          have c21b : (w 16 (m) = 1) := of_decide_eq_true c21
          refine z_iconst C 182 dX7_member_181 rfl ?_
          refine z_goto C 191 dX7_member_182 (by decide) ?_
          exact z_iret C dX7_member_191 rfl (Nat.le_of_ble_eq_true rfl) (Nat.le_of_ble_eq_true rfl) ⟨congrArg (fun z => some (Value.int (iI z))) (by clear C hκ hκl hS hB hB1 hB2 hB3 hB4 hB5 hB6 hC hD hw f20a f20b f20c f20d; first | (simp_all [mbI, bI]; done) | (simp_all [mbI, bI] <;> omega) | (grind [mbI, bI]) | (simp [mbI, bI] at * <;> omega)), rfl⟩
        · skip
          have c21b : ¬ (w 16 (m) = 1) := of_decide_eq_false c21
          refine z_aload_n C 172 0 dX7_member_171 rfl rfl ?_
          refine z_iload_n C 173 1 dX7_member_172 rfl rfl ?_
          refine z_bipush C 175 dX7_member_173 (by decide) rfl ?_
          refine z_callVF (n' := 0) (k' := 0) (As := [.int (iI (m)), .int (iI (16))]) (rest := []) C hκ hκl 178 (k7_has hD hw (m) (16) r_m ⟨by decide, by decide⟩ (by omega)) dX7_member_175 q2271 q2273 qs53 q97 q2274 znX7_has (Nat.le_of_ble_eq_true rfl) (Nat.le_of_ble_eq_true rfl) (Nat.le_of_ble_eq_true rfl) (Nat.le_of_ble_eq_true rfl) mrec rfl rfl (Nat.le_of_ble_eq_true rfl) rfl rfl rfl ?_
          refine z_ifB_eq C 185 181 dX7_member_178 (by decide) rfl (fun c22 => ?_) (fun c22 => ?_)
          · skip
            refine z_aload_n C 186 0 dX7_member_185 rfl rfl ?_
            refine m_geta C hκ 189 22 (by decide) rfl q2017 rfl dX7_member_186 rfl ?_
            refine z_iload_n C 190 1 dX7_member_189 rfl rfl ?_
            refine m_iald (len := 100) C hκ hD 191 22 (by decide) rfl rfl (by omega) (by omega) dX7_member_190 rfl ?_
            exact z_iret C dX7_member_191 rfl (Nat.le_of_ble_eq_true rfl) (Nat.le_of_ble_eq_true rfl) ⟨congrArg (fun z => some (Value.int (iI z))) (by clear C hκ hκl hS hB hB1 hB2 hB3 hB4 hB5 hB6 hC hD hw f20a f20b f20c f20d; first | (simp_all [mbI, bI]; done) | (simp_all [mbI, bI] <;> omega) | (grind [mbI, bI]) | (simp [mbI, bI] at * <;> omega)), rfl⟩
          · skip
            refine z_iconst C 182 dX7_member_181 rfl ?_
            refine z_goto C 191 dX7_member_182 (by decide) ?_
            exact z_iret C dX7_member_191 rfl (Nat.le_of_ble_eq_true rfl) (Nat.le_of_ble_eq_true rfl) ⟨congrArg (fun z => some (Value.int (iI z))) (by clear C hκ hκl hS hB hB1 hB2 hB3 hB4 hB5 hB6 hC hD hw f20a f20b f20c f20d; first | (simp_all [mbI, bI]; done) | (simp_all [mbI, bI] <;> omega) | (grind [mbI, bI]) | (simp [mbI, bI] at * <;> omega)), rfl⟩
      · skip
        refine z_tsOut C 192 dX7_member_24 c3r c3 (by decide) ?_
        refine z_iload_n C 193 2 dX7_member_192 rfl rfl ?_
        refine z_bipush C 195 dX7_member_193 (by decide) rfl ?_
        refine z_isub C 196 dX7_member_195 rfl ?_
        refine z_aload_n C 197 0 dX7_member_196 rfl rfl ?_
        refine m_geta C hκ 200 18 (by decide) rfl q2013 rfl dX7_member_197 rfl ?_
        refine z_iload_n C 201 1 dX7_member_200 rfl rfl ?_
        obtain ⟨f23a, f23b, f23c, f23d⟩ := hS.M (show 0 ≤ m by omega) (by omega)
        refine m_iald (len := 100) C hκ hD 202 18 (by decide) rfl rfl (by omega) (by omega) dX7_member_201 rfl ?_
        refine z_icmp_ge C 221 205 dX7_member_202 (by decide) ⟨by omega, by omega⟩ (hw.r _ _ rfl) rfl (fun c24 => ?_) (fun c24 => ?_)
        · skip
          refine z_iconst C 222 dX7_member_221 rfl ?_
          exact z_iret C dX7_member_222 rfl (Nat.le_of_ble_eq_true rfl) (Nat.le_of_ble_eq_true rfl) ⟨congrArg (fun z => some (Value.int (iI z))) (by clear C hκ hκl hS hB hB1 hB2 hB3 hB4 hB5 hB6 hC hD hw f23a f23b f23c f23d; first | (simp_all [mbI, bI]; done) | (simp_all [mbI, bI] <;> omega) | (grind [mbI, bI]) | (simp [mbI, bI] at * <;> omega)), rfl⟩
        · skip
          refine z_aload_n C 206 0 dX7_member_205 rfl rfl ?_
          refine m_geta C hκ 209 19 (by decide) rfl q2014 rfl dX7_member_206 rfl ?_
          refine z_iconst C 210 dX7_member_209 rfl ?_
          refine z_iload_n C 211 1 dX7_member_210 rfl rfl ?_
          refine z_imul C 212 dX7_member_211 rfl ?_
          refine z_iload_n C 213 2 dX7_member_212 rfl rfl ?_
          refine z_iadd C 214 dX7_member_213 rfl ?_
          refine z_bipush C 216 dX7_member_214 (by decide) rfl ?_
          refine z_isub C 217 dX7_member_216 rfl ?_
          refine m_iald (len := 300) C hκ hD 218 19 (by decide) rfl rfl (by omega) (by omega) dX7_member_217 rfl ?_
          refine z_goto C 222 dX7_member_218 (by decide) ?_
          exact z_iret C dX7_member_222 rfl (Nat.le_of_ble_eq_true rfl) (Nat.le_of_ble_eq_true rfl) ⟨congrArg (fun z => some (Value.int (iI z))) (by clear C hκ hκl hS hB hB1 hB2 hB3 hB4 hB5 hB6 hC hD hw f23a f23b f23c f23d; first | (simp_all [mbI, bI]; done) | (simp_all [mbI, bI] <;> omega) | (grind [mbI, bI]) | (simp [mbI, bI] at * <;> omega)), rfl⟩
    · skip
      have c2b : ¬ (((0) ≤ (k) ∧ (k) ≤ (10))) := of_decide_eq_false c2
      refine z_bipush C 22 dX7_member_20 (by decide) rfl ?_
      exact z_iret C dX7_member_22 rfl (Nat.le_of_ble_eq_true rfl) (Nat.le_of_ble_eq_true rfl) ⟨congrArg (fun z => some (Value.int (iI z))) (by clear C hκ hκl hS hB hB1 hB2 hB3 hB4 hB5 hB6 hC hD hw; first | (simp_all [mbI, bI]; done) | (simp_all [mbI, bI] <;> omega) | (grind [mbI, bI]) | (simp [mbI, bI] at * <;> omega)), rfl⟩
set_option maxRecDepth 100000 in
theorem k7_overrides {l : Launch} {θ : zTh} {N : zMap} {am : Nat} {ar : Nat → Nat} {w : mW} (hD : mDis am ar) (hw : mWF w) (m : Int) (n : Int) (r_m : inR m) (r_n : inR n) (hS : mS w)  : ZF θ l yX7_overrides cX7_overrides 3 (some .int) ⟨3, 0, 0, 66⟩ [.ref (am), .int (iI (m)), .int (iI (n))] (mP θ am ar w N) (some (.int (iI (orI w m n)))) (mP θ am ar w N) := by
  refine z_start (own := RX7) (nm := "overrides") pnX7 rfl rfl (Nat.le_of_ble_eq_true rfl) ?_
  intro κ hκ hκl C
  change Z κ (mP θ am ar w N) 0 0 0 [(0, .ref (am)), (1, .int (iI (m))), (2, .int (iI (n)))] []
  have hB := hS.B
  obtain ⟨hB1, hB2, hB3, hB4, hB5, hB6⟩ := hS.B
  have hC := hS.C
  refine z_aload_n C 1 0 dX7_overrides_0 rfl rfl ?_
  refine z_iload_n C 2 1 dX7_overrides_1 rfl rfl ?_
  refine z_callVF (n' := 0) (k' := 0) (As := [.int (iI (m))]) (rest := []) C hκ hκl 5 (k7_isMember hD hw (m) r_m hB) dX7_overrides_2 q2259 q2261 qs50 q97 q2262 znX7_isMember (Nat.le_of_ble_eq_true rfl) (Nat.le_of_ble_eq_true rfl) (Nat.le_of_ble_eq_true rfl) (Nat.le_of_ble_eq_true rfl) mrec rfl rfl (Nat.le_of_ble_eq_true rfl) rfl rfl rfl ?_
  refine z_ifB_eq C 31 8 dX7_overrides_5 (by decide) rfl (fun c1 => ?_) (fun c1 => ?_)
  · skip
    have c1b : ¬ (0 ≤ (m) ∧ (m) < w 11 0) := of_decide_eq_false c1
    refine z_iconst C 32 dX7_overrides_31 rfl ?_
    exact z_iret C dX7_overrides_32 rfl (Nat.le_of_ble_eq_true rfl) (Nat.le_of_ble_eq_true rfl) ⟨congrArg (fun z => some (Value.int (iI z))) (by clear C hκ hκl hS hB hB1 hB2 hB3 hB4 hB5 hB6 hC hD hw; first | (simp_all [orI, bI]; done) | (simp_all [orI, bI] <;> omega) | (grind [orI, bI]) | (simp [orI, bI] at * <;> omega)), rfl⟩
  · skip
    have c1b : (0 ≤ (m) ∧ (m) < w 11 0) := of_decide_eq_true c1
    refine z_aload_n C 9 0 dX7_overrides_8 rfl rfl ?_
    refine z_iload_n C 10 2 dX7_overrides_9 rfl rfl ?_
    refine z_callVF (n' := 0) (k' := 0) (As := [.int (iI (n))]) (rest := []) C hκ hκl 13 (k7_isMember hD hw (n) r_n hB) dX7_overrides_10 q2259 q2261 qs50 q97 q2262 znX7_isMember (Nat.le_of_ble_eq_true rfl) (Nat.le_of_ble_eq_true rfl) (Nat.le_of_ble_eq_true rfl) (Nat.le_of_ble_eq_true rfl) mrec rfl rfl (Nat.le_of_ble_eq_true rfl) rfl rfl rfl ?_
    refine z_ifB_eq C 31 16 dX7_overrides_13 (by decide) rfl (fun c2 => ?_) (fun c2 => ?_)
    · skip
      have c2b : ¬ (0 ≤ (n) ∧ (n) < w 11 0) := of_decide_eq_false c2
      refine z_iconst C 32 dX7_overrides_31 rfl ?_
      exact z_iret C dX7_overrides_32 rfl (Nat.le_of_ble_eq_true rfl) (Nat.le_of_ble_eq_true rfl) ⟨congrArg (fun z => some (Value.int (iI z))) (by clear C hκ hκl hS hB hB1 hB2 hB3 hB4 hB5 hB6 hC hD hw; first | (simp_all [orI, bI]; done) | (simp_all [orI, bI] <;> omega) | (grind [orI, bI]) | (simp [orI, bI] at * <;> omega)), rfl⟩
    · skip
      have c2b : (0 ≤ (n) ∧ (n) < w 11 0) := of_decide_eq_true c2
      refine z_aload_n C 17 0 dX7_overrides_16 rfl rfl ?_
      refine m_geta C hκ 20 16 (by decide) rfl q2011 rfl dX7_overrides_17 rfl ?_
      refine z_iload_n C 21 1 dX7_overrides_20 rfl rfl ?_
      obtain ⟨f3a, f3b, f3c, f3d⟩ := hS.M (show 0 ≤ m by omega) (by omega)
      refine m_bald (len := 100) C hκ hD hw 22 16 (by decide) rfl rfl rfl (by omega) (by omega) dX7_overrides_21 rfl ?_
      refine z_aload_n C 23 0 dX7_overrides_22 rfl rfl ?_
      refine m_geta C hκ 26 16 (by decide) rfl q2011 rfl dX7_overrides_23 rfl ?_
      refine z_iload_n C 27 2 dX7_overrides_26 rfl rfl ?_
      obtain ⟨f4a, f4b, f4c, f4d⟩ := hS.M (show 0 ≤ n by omega) (by omega)
      refine m_bald (len := 100) C hκ hD hw 28 16 (by decide) rfl rfl rfl (by omega) (by omega) dX7_overrides_27 rfl ?_
      refine z_icmp_eq C 33 31 dX7_overrides_28 (by decide) (inR_b _) (inR_b _) rfl (fun c5 => ?_) (fun c5 => ?_)
      · skip
        refine z_aload_n C 34 0 dX7_overrides_33 rfl rfl ?_
        refine m_geta C hκ 37 16 (by decide) rfl q2011 rfl dX7_overrides_34 rfl ?_
        refine z_iload_n C 38 1 dX7_overrides_37 rfl rfl ?_
        refine m_bald (len := 100) C hκ hD hw 39 16 (by decide) rfl rfl rfl (by omega) (by omega) dX7_overrides_38 rfl ?_
        refine z_ifB_eq C 97 42 dX7_overrides_39 (by decide) rfl (fun c6 => ?_) (fun c6 => ?_)
        · skip
          have c6b : ¬ (w 16 (m) = 1) := of_decide_eq_false c6
          refine z_aload_n C 98 0 dX7_overrides_97 rfl rfl ?_
          refine z_iload_n C 99 1 dX7_overrides_98 rfl rfl ?_
          refine z_iload_n C 100 2 dX7_overrides_99 rfl rfl ?_
          refine z_callVF (n' := 0) (k' := 0) (As := [.int (iI (m)), .int (iI (n))]) (rest := []) C hκ hκl 103 (k7_overridesIt hD hw (m) (n) r_m r_n hS (by omega) (by omega)) dX7_overrides_100 q2263 q2265 qs51 q97 q2266 znX7_overridesIt (Nat.le_of_ble_eq_true rfl) (Nat.le_of_ble_eq_true rfl) (Nat.le_of_ble_eq_true rfl) (Nat.le_of_ble_eq_true rfl) mrec rfl rfl (Nat.le_of_ble_eq_true rfl) rfl rfl rfl ?_
          refine z_ifB_eq C 110 106 dX7_overrides_103 (by decide) rfl (fun c7 => ?_) (fun c7 => ?_)
          · skip
            refine z_iconst C 111 dX7_overrides_110 rfl ?_
            exact z_iret C dX7_overrides_111 rfl (Nat.le_of_ble_eq_true rfl) (Nat.le_of_ble_eq_true rfl) ⟨congrArg (fun z => some (Value.int (iI z))) (by clear C hκ hκl hS hB hB1 hB2 hB3 hB4 hB5 hB6 hC hD hw f3a f3b f3c f3d f4a f4b f4c f4d; first | (simp_all [orI, bI]; done) | (simp_all [orI, bI] <;> omega) | (grind [orI, bI]) | (simp [orI, bI] at * <;> omega)), rfl⟩
          · skip
            refine z_iconst C 107 dX7_overrides_106 rfl ?_
            refine z_goto C 111 dX7_overrides_107 (by decide) ?_
            exact z_iret C dX7_overrides_111 rfl (Nat.le_of_ble_eq_true rfl) (Nat.le_of_ble_eq_true rfl) ⟨congrArg (fun z => some (Value.int (iI z))) (by clear C hκ hκl hS hB hB1 hB2 hB3 hB4 hB5 hB6 hC hD hw f3a f3b f3c f3d f4a f4b f4c f4d; first | (simp_all [orI, bI]; done) | (simp_all [orI, bI] <;> omega) | (grind [orI, bI]) | (simp [orI, bI] at * <;> omega)), rfl⟩
        · skip
          have c6b : (w 16 (m) = 1) := of_decide_eq_true c6
          refine z_aload_n C 43 0 dX7_overrides_42 rfl rfl ?_
          refine m_geta C hκ 46 14 (by decide) rfl q2009 rfl dX7_overrides_43 rfl ?_
          refine z_iload_n C 47 1 dX7_overrides_46 rfl rfl ?_
          refine m_iald (len := 100) C hκ hD 48 14 (by decide) rfl rfl (by omega) (by omega) dX7_overrides_47 rfl ?_
          refine z_aload_n C 49 0 dX7_overrides_48 rfl rfl ?_
          refine m_geta C hκ 52 14 (by decide) rfl q2009 rfl dX7_overrides_49 rfl ?_
          refine z_iload_n C 53 2 dX7_overrides_52 rfl rfl ?_
          refine m_iald (len := 100) C hκ hD 54 14 (by decide) rfl rfl (by omega) (by omega) dX7_overrides_53 rfl ?_
          refine z_icmp_ne C 95 57 dX7_overrides_54 (by decide) (hw.r _ _ rfl) (hw.r _ _ rfl) rfl (fun c8 => ?_) (fun c8 => ?_)
          · skip
            refine z_iconst C 96 dX7_overrides_95 rfl ?_
            exact z_iret C dX7_overrides_96 rfl (Nat.le_of_ble_eq_true rfl) (Nat.le_of_ble_eq_true rfl) ⟨congrArg (fun z => some (Value.int (iI z))) (by clear C hκ hκl hS hB hB1 hB2 hB3 hB4 hB5 hB6 hC hD hw f3a f3b f3c f3d f4a f4b f4c f4d; first | (simp_all [orI, bI]; done) | (simp_all [orI, bI] <;> omega) | (grind [orI, bI]) | (simp [orI, bI] at * <;> omega)), rfl⟩
          · skip
            refine z_aload_n C 58 0 dX7_overrides_57 rfl rfl ?_
            refine m_geta C hκ 61 13 (by decide) rfl q2008 rfl dX7_overrides_58 rfl ?_
            refine z_iload_n C 62 1 dX7_overrides_61 rfl rfl ?_
            refine m_iald (len := 100) C hκ hD 63 13 (by decide) rfl rfl (by omega) (by omega) dX7_overrides_62 rfl ?_
            refine z_aload_n C 64 0 dX7_overrides_63 rfl rfl ?_
            refine m_geta C hκ 67 13 (by decide) rfl q2008 rfl dX7_overrides_64 rfl ?_
            refine z_iload_n C 68 2 dX7_overrides_67 rfl rfl ?_
            refine m_iald (len := 100) C hκ hD 69 13 (by decide) rfl rfl (by omega) (by omega) dX7_overrides_68 rfl ?_
            refine z_icmp_eq C 95 72 dX7_overrides_69 (by decide) (hw.r _ _ rfl) (hw.r _ _ rfl) rfl (fun c9 => ?_) (fun c9 => ?_)
            · skip
              refine z_iconst C 96 dX7_overrides_95 rfl ?_
              exact z_iret C dX7_overrides_96 rfl (Nat.le_of_ble_eq_true rfl) (Nat.le_of_ble_eq_true rfl) ⟨congrArg (fun z => some (Value.int (iI z))) (by clear C hκ hκl hS hB hB1 hB2 hB3 hB4 hB5 hB6 hC hD hw f3a f3b f3c f3d f4a f4b f4c f4d; first | (simp_all [orI, bI]; done) | (simp_all [orI, bI] <;> omega) | (grind [orI, bI]) | (simp [orI, bI] at * <;> omega)), rfl⟩
            · skip
              refine z_aload_n C 73 0 dX7_overrides_72 rfl rfl ?_
              refine z_aload_n C 74 0 dX7_overrides_73 rfl rfl ?_
              refine m_geta C hκ 77 13 (by decide) rfl q2008 rfl dX7_overrides_74 rfl ?_
              refine z_iload_n C 78 1 dX7_overrides_77 rfl rfl ?_
              refine m_iald (len := 100) C hκ hD 79 13 (by decide) rfl rfl (by omega) (by omega) dX7_overrides_78 rfl ?_
              refine z_aload_n C 80 0 dX7_overrides_79 rfl rfl ?_
              refine m_geta C hκ 83 13 (by decide) rfl q2008 rfl dX7_overrides_80 rfl ?_
              refine z_iload_n C 84 2 dX7_overrides_83 rfl rfl ?_
              refine m_iald (len := 100) C hκ hD 85 13 (by decide) rfl rfl (by omega) (by omega) dX7_overrides_84 rfl ?_
              refine z_callVF (n' := 0) (k' := 0) (As := [.int (iI (w 13 (m))), .int (iI (w 13 (n)))]) (rest := []) C hκ hκl 88 (k7_isOne hD hw (w 13 (m)) (w 13 (n)) (hw.r _ _ rfl) (hw.r _ _ rfl) (by omega) (by omega)) dX7_overrides_85 q2197 q2199 qs44 q97 q2200 znX7_isOne (Nat.le_of_ble_eq_true rfl) (Nat.le_of_ble_eq_true rfl) (Nat.le_of_ble_eq_true rfl) (Nat.le_of_ble_eq_true rfl) mrec rfl rfl (Nat.le_of_ble_eq_true rfl) rfl rfl rfl ?_
              refine z_ifB_eq C 95 91 dX7_overrides_88 (by decide) rfl (fun c10 => ?_) (fun c10 => ?_)
              · skip
                refine z_iconst C 96 dX7_overrides_95 rfl ?_
                exact z_iret C dX7_overrides_96 rfl (Nat.le_of_ble_eq_true rfl) (Nat.le_of_ble_eq_true rfl) ⟨congrArg (fun z => some (Value.int (iI z))) (by clear C hκ hκl hS hB hB1 hB2 hB3 hB4 hB5 hB6 hC hD hw f3a f3b f3c f3d f4a f4b f4c f4d; first | (simp_all [orI, bI]; done) | (simp_all [orI, bI] <;> omega) | (grind [orI, bI]) | (simp [orI, bI] at * <;> omega)), rfl⟩
              · skip
                refine z_iconst C 92 dX7_overrides_91 rfl ?_
                refine z_goto C 96 dX7_overrides_92 (by decide) ?_
                exact z_iret C dX7_overrides_96 rfl (Nat.le_of_ble_eq_true rfl) (Nat.le_of_ble_eq_true rfl) ⟨congrArg (fun z => some (Value.int (iI z))) (by clear C hκ hκl hS hB hB1 hB2 hB3 hB4 hB5 hB6 hC hD hw f3a f3b f3c f3d f4a f4b f4c f4d; first | (simp_all [orI, bI]; done) | (simp_all [orI, bI] <;> omega) | (grind [orI, bI]) | (simp [orI, bI] at * <;> omega)), rfl⟩
      · skip
        refine z_iconst C 32 dX7_overrides_31 rfl ?_
        exact z_iret C dX7_overrides_32 rfl (Nat.le_of_ble_eq_true rfl) (Nat.le_of_ble_eq_true rfl) ⟨congrArg (fun z => some (Value.int (iI z))) (by clear C hκ hκl hS hB hB1 hB2 hB3 hB4 hB5 hB6 hC hD hw f3a f3b f3c f3d f4a f4b f4c f4d; first | (simp_all [orI, bI]; done) | (simp_all [orI, bI] <;> omega) | (grind [orI, bI]) | (simp [orI, bI] at * <;> omega)), rfl⟩
set_option maxRecDepth 100000 in
theorem k7_may {l : Launch} {θ : zTh} {N : zMap} {am : Nat} {ar : Nat → Nat} {w : mW} (hD : mDis am ar) (hw : mWF w) (m : Int) (x : Int) (r_m : inR m) (r_x : inR x) (hS : mS w)  : ZF θ l yX7_may cX7_may 3 (some .int) ⟨3, 0, 0, 67⟩ [.ref (am), .int (iI (m)), .int (iI (x))] (mP θ am ar w N) (some (.int (iI (myI w m x)))) (mP θ am ar w N) := by
  refine z_start (own := RX7) (nm := "may") pnX7 rfl rfl (Nat.le_of_ble_eq_true rfl) ?_
  intro κ hκ hκl C
  change Z κ (mP θ am ar w N) 0 0 0 [(0, .ref (am)), (1, .int (iI (m))), (2, .int (iI (x)))] []
  have hB := hS.B
  obtain ⟨hB1, hB2, hB3, hB4, hB5, hB6⟩ := hS.B
  have hC := hS.C
  refine z_aload_n C 1 0 dX7_may_0 rfl rfl ?_
  refine z_iload_n C 2 1 dX7_may_1 rfl rfl ?_
  refine z_callVF (n' := 0) (k' := 0) (As := [.int (iI (m))]) (rest := []) C hκ hκl 5 (k7_isMember hD hw (m) r_m hB) dX7_may_2 q2259 q2261 qs50 q97 q2262 znX7_isMember (Nat.le_of_ble_eq_true rfl) (Nat.le_of_ble_eq_true rfl) (Nat.le_of_ble_eq_true rfl) (Nat.le_of_ble_eq_true rfl) mrec rfl rfl (Nat.le_of_ble_eq_true rfl) rfl rfl rfl ?_
  refine z_ifB_eq C 16 8 dX7_may_5 (by decide) rfl (fun c1 => ?_) (fun c1 => ?_)
  · skip
    have c1b : ¬ (0 ≤ (m) ∧ (m) < w 11 0) := of_decide_eq_false c1
    refine z_iconst C 17 dX7_may_16 rfl ?_
    exact z_iret C dX7_may_17 rfl (Nat.le_of_ble_eq_true rfl) (Nat.le_of_ble_eq_true rfl) ⟨congrArg (fun z => some (Value.int (iI z))) (by clear C hκ hκl hS hB hB1 hB2 hB3 hB4 hB5 hB6 hC hD hw; first | (simp_all [myI, bI]; done) | (simp_all [myI, bI] <;> omega) | (grind [myI, bI]) | (simp [myI, bI] at * <;> omega)), rfl⟩
  · skip
    have c1b : (0 ≤ (m) ∧ (m) < w 11 0) := of_decide_eq_true c1
    refine z_aload_n C 9 0 dX7_may_8 rfl rfl ?_
    refine z_iload_n C 10 2 dX7_may_9 rfl rfl ?_
    refine z_callVF (n' := 0) (k' := 0) (As := [.int (iI (x))]) (rest := []) C hκ hκl 13 (k7_isThingOrNone hD hw (x) r_x hB) dX7_may_10 q2345 q2347 qs63 q97 q2348 znX7_isThingOrNone (Nat.le_of_ble_eq_true rfl) (Nat.le_of_ble_eq_true rfl) (Nat.le_of_ble_eq_true rfl) (Nat.le_of_ble_eq_true rfl) mrec rfl rfl (Nat.le_of_ble_eq_true rfl) rfl rfl rfl ?_
    refine z_ifB_ne C 18 16 dX7_may_13 (by decide) rfl (fun c2 => ?_) (fun c2 => ?_)
    · skip
      have c2b : ((x) = -1 ∨ (0 ≤ (x) ∧ (x) < w 27 0)) := of_decide_eq_true c2
      refine z_aload_n C 19 0 dX7_may_18 rfl rfl ?_
      refine z_iload_n C 20 1 dX7_may_19 rfl rfl ?_
      refine z_iload_n C 21 2 dX7_may_20 rfl rfl ?_
      refine z_callVF (n' := 0) (k' := 0) (As := [.int (iI (m)), .int (iI (x))]) (rest := []) C hκ hκl 24 (k7_mayCaller hD hw (m) (x) r_m r_x hS (by omega) (by omega)) dX7_may_21 q2353 q2355 qs65 q97 q2356 znX7_mayCaller (Nat.le_of_ble_eq_true rfl) (Nat.le_of_ble_eq_true rfl) (Nat.le_of_ble_eq_true rfl) (Nat.le_of_ble_eq_true rfl) mrec rfl rfl (Nat.le_of_ble_eq_true rfl) rfl rfl rfl ?_
      refine z_ifB_eq C 31 27 dX7_may_24 (by decide) rfl (fun c3 => ?_) (fun c3 => ?_)
      · skip
        refine z_iconst C 32 dX7_may_31 rfl ?_
        exact z_iret C dX7_may_32 rfl (Nat.le_of_ble_eq_true rfl) (Nat.le_of_ble_eq_true rfl) ⟨congrArg (fun z => some (Value.int (iI z))) (by clear C hκ hκl hS hB hB1 hB2 hB3 hB4 hB5 hB6 hC hD hw; first | (simp_all [myI, bI]; done) | (simp_all [myI, bI] <;> omega) | (grind [myI, bI]) | (simp [myI, bI] at * <;> omega)), rfl⟩
      · skip
        refine z_iconst C 28 dX7_may_27 rfl ?_
        refine z_goto C 32 dX7_may_28 (by decide) ?_
        exact z_iret C dX7_may_32 rfl (Nat.le_of_ble_eq_true rfl) (Nat.le_of_ble_eq_true rfl) ⟨congrArg (fun z => some (Value.int (iI z))) (by clear C hκ hκl hS hB hB1 hB2 hB3 hB4 hB5 hB6 hC hD hw; first | (simp_all [myI, bI]; done) | (simp_all [myI, bI] <;> omega) | (grind [myI, bI]) | (simp [myI, bI] at * <;> omega)), rfl⟩
    · skip
      have c2b : ¬ ((x) = -1 ∨ (0 ≤ (x) ∧ (x) < w 27 0)) := of_decide_eq_false c2
      refine z_iconst C 17 dX7_may_16 rfl ?_
      exact z_iret C dX7_may_17 rfl (Nat.le_of_ble_eq_true rfl) (Nat.le_of_ble_eq_true rfl) ⟨congrArg (fun z => some (Value.int (iI z))) (by clear C hκ hκl hS hB hB1 hB2 hB3 hB4 hB5 hB6 hC hD hw; first | (simp_all [myI, bI]; done) | (simp_all [myI, bI] <;> omega) | (grind [myI, bI]) | (simp [myI, bI] at * <;> omega)), rfl⟩
set_option maxRecDepth 100000 in
theorem k7_thing {l : Launch} {θ : zTh} {N : zMap} {am : Nat} {ar : Nat → Nat} {w : mW} (hD : mDis am ar) (hw : mWF w) (x : Int) (k : Int) (r_x : inR x) (r_k : inR k) (hS : mS w)  : ZF θ l yX7_thing cX7_thing 3 (some .int) ⟨3, 0, 0, 67⟩ [.ref (am), .int (iI (x)), .int (iI (k))] (mP θ am ar w N) (some (.int (iI (thI w x k)))) (mP θ am ar w N) := by
  refine z_start (own := RX7) (nm := "thing") pnX7 rfl rfl (Nat.le_of_ble_eq_true rfl) ?_
  intro κ hκ hκl C
  change Z κ (mP θ am ar w N) 0 0 0 [(0, .ref (am)), (1, .int (iI (x))), (2, .int (iI (k)))] []
  have hB := hS.B
  obtain ⟨hB1, hB2, hB3, hB4, hB5, hB6⟩ := hS.B
  have hC := hS.C
  refine z_aload_n C 1 0 dX7_thing_0 rfl rfl ?_
  refine z_iload_n C 2 1 dX7_thing_1 rfl rfl ?_
  refine z_callVF (n' := 0) (k' := 0) (As := [.int (iI (x))]) (rest := []) C hκ hκl 5 (k7_isThingOrNone hD hw (x) r_x hB) dX7_thing_2 q2345 q2347 qs63 q97 q2348 znX7_isThingOrNone (Nat.le_of_ble_eq_true rfl) (Nat.le_of_ble_eq_true rfl) (Nat.le_of_ble_eq_true rfl) (Nat.le_of_ble_eq_true rfl) mrec rfl rfl (Nat.le_of_ble_eq_true rfl) rfl rfl rfl ?_
  refine z_ifB_eq C 18 8 dX7_thing_5 (by decide) rfl (fun c1 => ?_) (fun c1 => ?_)
  · skip
    have c1b : ¬ ((x) = -1 ∨ (0 ≤ (x) ∧ (x) < w 27 0)) := of_decide_eq_false c1
    refine z_bipush C 20 dX7_thing_18 (by decide) rfl ?_
    exact z_iret C dX7_thing_20 rfl (Nat.le_of_ble_eq_true rfl) (Nat.le_of_ble_eq_true rfl) ⟨congrArg (fun z => some (Value.int (iI z))) (by clear C hκ hκl hS hB hB1 hB2 hB3 hB4 hB5 hB6 hC hD hw; first | (simp_all [thI]; done) | (simp_all [thI] <;> omega) | (grind [thI]) | (simp [thI] at * <;> omega)), rfl⟩
  · skip
    have c1b : ((x) = -1 ∨ (0 ≤ (x) ∧ (x) < w 27 0)) := of_decide_eq_true c1
    refine z_iload_n C 9 2 dX7_thing_8 rfl rfl ?_
    refine z_i2l C 10 dX7_thing_9 r_k rfl ?_
    refine z_lconst (x := 0) C 11 dX7_thing_10 rfl rfl ?_
    refine z_lconst (x := 1) C 12 dX7_thing_11 rfl rfl ?_
    refine z_callSF (n' := 0) (k' := 0) (As := [.long (lI (k)), .long (lI (0)), .long (lI (1))]) (rest := []) C hκ hκl 15 (k7_in (k) (0) (1) (inR_L r_k) ⟨by decide, by decide⟩ ⟨by decide, by decide⟩) dX7_thing_12 q2164 q2165 q97 q2166 znX7_in (Nat.le_of_ble_eq_true rfl) (Nat.le_of_ble_eq_true rfl) (Nat.le_of_ble_eq_true rfl) (Nat.le_of_ble_eq_true rfl) rfl (Nat.le_of_ble_eq_true rfl) rfl rfl rfl ?_
    refine z_ifB_ne C 21 18 dX7_thing_15 (by decide) rfl (fun c2 => ?_) (fun c2 => ?_)
    · skip
      have c2b : (((0) ≤ (k) ∧ (k) ≤ (1))) := of_decide_eq_true c2
      refine z_iload_n C 22 1 dX7_thing_21 rfl rfl ?_
      refine z_iconst C 23 dX7_thing_22 rfl ?_
      refine z_icmp_ne C 30 26 dX7_thing_23 (by decide) r_x ⟨by decide, by decide⟩ rfl (fun c3 => ?_) (fun c3 => ?_)
      · skip
        refine z_iload_n C 31 2 dX7_thing_30 rfl rfl ?_
        refine z_if_ne C 43 34 dX7_thing_31 (by decide) r_k rfl (fun c4 => ?_) (fun c4 => ?_)
        · skip
          refine z_aload_n C 44 0 dX7_thing_43 rfl rfl ?_
          refine m_geta C hκ 47 29 (by decide) rfl q2024 rfl dX7_thing_44 rfl ?_
          refine z_iload_n C 48 1 dX7_thing_47 rfl rfl ?_
          obtain ⟨f5a, f5b, f5c⟩ := hS.X (show 0 ≤ x by omega) (by omega)
          refine m_iald (len := 80) C hκ hD 49 29 (by decide) rfl rfl (by omega) (by omega) dX7_thing_48 rfl ?_
          exact z_iret C dX7_thing_49 rfl (Nat.le_of_ble_eq_true rfl) (Nat.le_of_ble_eq_true rfl) ⟨congrArg (fun z => some (Value.int (iI z))) (by clear C hκ hκl hS hB hB1 hB2 hB3 hB4 hB5 hB6 hC hD hw f5a f5b f5c; first | (simp_all [thI]; done) | (simp_all [thI] <;> omega) | (grind [thI]) | (simp [thI] at * <;> omega)), rfl⟩
        · skip
          refine z_aload_n C 35 0 dX7_thing_34 rfl rfl ?_
          refine m_geta C hκ 38 28 (by decide) rfl q2023 rfl dX7_thing_35 rfl ?_
          refine z_iload_n C 39 1 dX7_thing_38 rfl rfl ?_
          obtain ⟨f6a, f6b, f6c⟩ := hS.X (show 0 ≤ x by omega) (by omega)
          refine m_iald (len := 80) C hκ hD 40 28 (by decide) rfl rfl (by omega) (by omega) dX7_thing_39 rfl ?_
          refine z_goto C 49 dX7_thing_40 (by decide) ?_
          exact z_iret C dX7_thing_49 rfl (Nat.le_of_ble_eq_true rfl) (Nat.le_of_ble_eq_true rfl) ⟨congrArg (fun z => some (Value.int (iI z))) (by clear C hκ hκl hS hB hB1 hB2 hB3 hB4 hB5 hB6 hC hD hw f6a f6b f6c; first | (simp_all [thI]; done) | (simp_all [thI] <;> omega) | (grind [thI]) | (simp [thI] at * <;> omega)), rfl⟩
      · skip
        refine z_iconst C 27 dX7_thing_26 rfl ?_
        refine z_goto C 49 dX7_thing_27 (by decide) ?_
        exact z_iret C dX7_thing_49 rfl (Nat.le_of_ble_eq_true rfl) (Nat.le_of_ble_eq_true rfl) ⟨congrArg (fun z => some (Value.int (iI z))) (by clear C hκ hκl hS hB hB1 hB2 hB3 hB4 hB5 hB6 hC hD hw; first | (simp_all [thI]; done) | (simp_all [thI] <;> omega) | (grind [thI]) | (simp [thI] at * <;> omega)), rfl⟩
    · skip
      have c2b : ¬ (((0) ≤ (k) ∧ (k) ≤ (1))) := of_decide_eq_false c2
      refine z_bipush C 20 dX7_thing_18 (by decide) rfl ?_
      exact z_iret C dX7_thing_20 rfl (Nat.le_of_ble_eq_true rfl) (Nat.le_of_ble_eq_true rfl) ⟨congrArg (fun z => some (Value.int (iI z))) (by clear C hκ hκl hS hB hB1 hB2 hB3 hB4 hB5 hB6 hC hD hw; first | (simp_all [thI]; done) | (simp_all [thI] <;> omega) | (grind [thI]) | (simp [thI] at * <;> omega)), rfl⟩
set_option maxRecDepth 100000 in
theorem k7_kind {l : Launch} {θ : zTh} {N : zMap} {am : Nat} {ar : Nat → Nat} {w : mW} (hD : mDis am ar) (hw : mWF w) (s : Int) (r_s : inR s) (hS : mS w)  : ZF θ l yX7_kind cX7_kind 2 (some .int) ⟨2, 0, 0, 45⟩ [.ref (am), .int (iI (s))] (mP θ am ar w N) (some (.int (iI (kdI w s)))) (mP θ am ar w N) := by
  refine z_start (own := RX7) (nm := "kind") pnX7 rfl rfl (Nat.le_of_ble_eq_true rfl) ?_
  intro κ hκ hκl C
  change Z κ (mP θ am ar w N) 0 0 0 [(0, .ref (am)), (1, .int (iI (s)))] []
  have hB := hS.B
  obtain ⟨hB1, hB2, hB3, hB4, hB5, hB6⟩ := hS.B
  have hC := hS.C
  refine z_iload_n C 1 1 dX7_kind_0 rfl rfl ?_
  refine z_callSF (n' := 0) (k' := 0) (As := [.int (iI (s))]) (rest := []) C hκ hκl 4 (k7_isSlot (s) r_s) dX7_kind_1 q2377 q2378 q97 q2379 znX7_isSlot (Nat.le_of_ble_eq_true rfl) (Nat.le_of_ble_eq_true rfl) (Nat.le_of_ble_eq_true rfl) (Nat.le_of_ble_eq_true rfl) rfl (Nat.le_of_ble_eq_true rfl) rfl rfl rfl ?_
  refine z_ifB_eq C 16 7 dX7_kind_4 (by decide) rfl (fun c1 => ?_) (fun c1 => ?_)
  · skip
    have c1b : ¬ (0 ≤ (s) ∧ (s) < 8) := of_decide_eq_false c1
    refine z_iconst C 17 dX7_kind_16 rfl ?_
    exact z_iret C dX7_kind_17 rfl (Nat.le_of_ble_eq_true rfl) (Nat.le_of_ble_eq_true rfl) ⟨congrArg (fun z => some (Value.int (iI z))) (by clear C hκ hκl hS hB hB1 hB2 hB3 hB4 hB5 hB6 hC hD hw; first | (simp_all [kdI]; done) | (simp_all [kdI] <;> omega) | (grind [kdI]) | (simp [kdI] at * <;> omega)), rfl⟩
  · skip
    have c1b : (0 ≤ (s) ∧ (s) < 8) := of_decide_eq_true c1
    refine z_aload_n C 8 0 dX7_kind_7 rfl rfl ?_
    refine m_geta C hκ 11 32 (by decide) rfl q2027 rfl dX7_kind_8 rfl ?_
    refine z_iload_n C 12 1 dX7_kind_11 rfl rfl ?_
    obtain ⟨f2a, f2b⟩ := hS.L (show 0 ≤ s by omega) (by omega)
    refine m_iald (len := 8) C hκ hD 13 32 (by decide) rfl rfl (by omega) (by omega) dX7_kind_12 rfl ?_
    refine z_goto C 17 dX7_kind_13 (by decide) ?_
    exact z_iret C dX7_kind_17 rfl (Nat.le_of_ble_eq_true rfl) (Nat.le_of_ble_eq_true rfl) ⟨congrArg (fun z => some (Value.int (iI z))) (by clear C hκ hκl hS hB hB1 hB2 hB3 hB4 hB5 hB6 hC hD hw f2a f2b; first | (simp_all [kdI]; done) | (simp_all [kdI] <;> omega) | (grind [kdI]) | (simp [kdI] at * <;> omega)), rfl⟩
set_option maxRecDepth 100000 in
theorem k7_bits {l : Launch} {θ : zTh} {N : zMap} {am : Nat} {ar : Nat → Nat} {w : mW} (hD : mDis am ar) (hw : mWF w) (s : Int) (r_s : inR s) (hS : mS w)  : ZF θ l yX7_bits cX7_bits 2 (some .long) ⟨2, 0, 0, 45⟩ [.ref (am), .int (iI (s))] (mP θ am ar w N) (some (.long (lI (btL w s)))) (mP θ am ar w N) := by
  refine z_start (own := RX7) (nm := "bits") pnX7 rfl rfl (Nat.le_of_ble_eq_true rfl) ?_
  intro κ hκ hκl C
  change Z κ (mP θ am ar w N) 0 0 0 [(0, .ref (am)), (1, .int (iI (s)))] []
  have hB := hS.B
  obtain ⟨hB1, hB2, hB3, hB4, hB5, hB6⟩ := hS.B
  have hC := hS.C
  refine z_iload_n C 1 1 dX7_bits_0 rfl rfl ?_
  refine z_callSF (n' := 0) (k' := 0) (As := [.int (iI (s))]) (rest := []) C hκ hκl 4 (k7_isSlot (s) r_s) dX7_bits_1 q2377 q2378 q97 q2379 znX7_isSlot (Nat.le_of_ble_eq_true rfl) (Nat.le_of_ble_eq_true rfl) (Nat.le_of_ble_eq_true rfl) (Nat.le_of_ble_eq_true rfl) rfl (Nat.le_of_ble_eq_true rfl) rfl rfl rfl ?_
  refine z_ifB_eq C 16 7 dX7_bits_4 (by decide) rfl (fun c1 => ?_) (fun c1 => ?_)
  · skip
    have c1b : ¬ (0 ≤ (s) ∧ (s) < 8) := of_decide_eq_false c1
    refine z_ldc2 (z := (-9223372036854775808)) C 19 dX7_bits_16 q2408 (by decide) rfl ?_
    exact z_lret C dX7_bits_19 (Nat.le_of_ble_eq_true rfl) (Nat.le_of_ble_eq_true rfl) ⟨congrArg (fun z => some (Value.long (lI z))) (by clear C hκ hκl hS hB hB1 hB2 hB3 hB4 hB5 hB6 hC hD hw; first | (simp_all [btL]; done) | (simp_all [btL] <;> omega) | (grind [btL]) | (simp [btL] at * <;> omega)), rfl⟩
  · skip
    have c1b : (0 ≤ (s) ∧ (s) < 8) := of_decide_eq_true c1
    refine z_aload_n C 8 0 dX7_bits_7 rfl rfl ?_
    refine m_geta C hκ 11 33 (by decide) rfl q2028 rfl dX7_bits_8 rfl ?_
    refine z_iload_n C 12 1 dX7_bits_11 rfl rfl ?_
    obtain ⟨f2a, f2b⟩ := hS.L (show 0 ≤ s by omega) (by omega)
    refine m_lald (len := 8) C hκ hD 13 33 (by decide) rfl rfl (by omega) (by omega) dX7_bits_12 rfl ?_
    refine z_goto C 19 dX7_bits_13 (by decide) ?_
    exact z_lret C dX7_bits_19 (Nat.le_of_ble_eq_true rfl) (Nat.le_of_ble_eq_true rfl) ⟨congrArg (fun z => some (Value.long (lI z))) (by clear C hκ hκl hS hB hB1 hB2 hB3 hB4 hB5 hB6 hC hD hw f2a f2b; first | (simp_all [btL]; done) | (simp_all [btL] <;> omega) | (grind [btL]) | (simp [btL] at * <;> omega)), rfl⟩
set_option maxRecDepth 100000 in
theorem k7_cause {l : Launch} {θ : zTh} {N : zMap} {am : Nat} {ar : Nat → Nat} {w : mW} (hD : mDis am ar) (hw : mWF w) (k : Int) (r_k : inR k)  : ZF θ l yX7_cause cX7_cause 2 (some .int) ⟨0, 0, 0, 0⟩ [.ref (am), .int (iI (k))] (mP θ am ar w N) (some (.int (iI (czI w k)))) (mP θ am ar w N) := by
  refine z_start (own := RX7) (nm := "cause") pnX7 rfl rfl (Nat.le_of_ble_eq_true rfl) ?_
  intro κ hκ hκl C
  change Z κ (mP θ am ar w N) 0 0 0 [(0, .ref (am)), (1, .int (iI (k)))] []
  refine z_iload_n C 1 1 dX7_cause_0 rfl rfl ?_
  refine z_if_ne C 11 4 dX7_cause_1 (by decide) r_k rfl (fun c1 => ?_) (fun c1 => ?_)
  · skip
    refine z_iload_n C 12 1 dX7_cause_11 rfl rfl ?_
    refine z_iconst C 13 dX7_cause_12 rfl ?_
    refine z_icmp_ne C 23 16 dX7_cause_13 (by decide) r_k ⟨by decide, by decide⟩ rfl (fun c2 => ?_) (fun c2 => ?_)
    · skip
      refine z_iload_n C 24 1 dX7_cause_23 rfl rfl ?_
      refine z_iconst C 25 dX7_cause_24 rfl ?_
      refine z_icmp_ne C 35 28 dX7_cause_25 (by decide) r_k ⟨by decide, by decide⟩ rfl (fun c3 => ?_) (fun c3 => ?_)
      · skip
        refine z_iconst C 36 dX7_cause_35 rfl ?_
        exact z_iret C dX7_cause_36 rfl (Nat.le_of_ble_eq_true rfl) (Nat.le_of_ble_eq_true rfl) ⟨congrArg (fun z => some (Value.int (iI z))) (by clear C hκ hκl ; first | (simp_all [czI]; done) | (simp_all [czI] <;> omega) | (grind [czI]) | (simp [czI] at * <;> omega)), rfl⟩
      · skip
        refine z_aload_n C 29 0 dX7_cause_28 rfl rfl ?_
        refine m_geti C hκ 32 39 (by decide) rfl q2034 rfl dX7_cause_29 rfl ?_
        refine z_goto C 36 dX7_cause_32 (by decide) ?_
        exact z_iret C dX7_cause_36 rfl (Nat.le_of_ble_eq_true rfl) (Nat.le_of_ble_eq_true rfl) ⟨congrArg (fun z => some (Value.int (iI z))) (by clear C hκ hκl ; first | (simp_all [czI]; done) | (simp_all [czI] <;> omega) | (grind [czI]) | (simp [czI] at * <;> omega)), rfl⟩
    · skip
      refine z_aload_n C 17 0 dX7_cause_16 rfl rfl ?_
      refine m_geti C hκ 20 38 (by decide) rfl q2033 rfl dX7_cause_17 rfl ?_
      refine z_goto C 36 dX7_cause_20 (by decide) ?_
      exact z_iret C dX7_cause_36 rfl (Nat.le_of_ble_eq_true rfl) (Nat.le_of_ble_eq_true rfl) ⟨congrArg (fun z => some (Value.int (iI z))) (by clear C hκ hκl ; first | (simp_all [czI]; done) | (simp_all [czI] <;> omega) | (grind [czI]) | (simp [czI] at * <;> omega)), rfl⟩
  · skip
    refine z_aload_n C 5 0 dX7_cause_4 rfl rfl ?_
    refine m_geti C hκ 8 37 (by decide) rfl q2032 rfl dX7_cause_5 rfl ?_
    refine z_goto C 36 dX7_cause_8 (by decide) ?_
    exact z_iret C dX7_cause_36 rfl (Nat.le_of_ble_eq_true rfl) (Nat.le_of_ble_eq_true rfl) ⟨congrArg (fun z => some (Value.int (iI z))) (by clear C hκ hκl ; first | (simp_all [czI]; done) | (simp_all [czI] <;> omega) | (grind [czI]) | (simp [czI] at * <;> omega)), rfl⟩
set_option maxRecDepth 100000 in
theorem k7_count {l : Launch} {θ : zTh} {N : zMap} {am : Nat} {ar : Nat → Nat} {w : mW} (hD : mDis am ar) (hw : mWF w) (k : Int) (r_k : inR k)  : ZF θ l yX7_count cX7_count 2 (some .int) ⟨0, 0, 0, 0⟩ [.ref (am), .int (iI (k))] (mP θ am ar w N) (some (.int (iI (cnI w k)))) (mP θ am ar w N) := by
  refine z_start (own := RX7) (nm := "count") pnX7 rfl rfl (Nat.le_of_ble_eq_true rfl) ?_
  intro κ hκ hκl C
  change Z κ (mP θ am ar w N) 0 0 0 [(0, .ref (am)), (1, .int (iI (k)))] []
  refine z_iload_n C 1 1 dX7_count_0 rfl rfl ?_
  have c1r : inR (k) := r_k
  rcases (show k = 0 ∨ k = 1 ∨ k = 2 ∨ k = 3 ∨ k = 4 ∨ k = 5 ∨ (k < 0 ∨ 5 < k) by omega) with c1 | c1 | c1 | c1 | c1 | c1 | c1
  · skip
    refine z_tsIn C (k) 40 (off := 39) dX7_count_1 c1r (by omega) (by omega) (by rw [c1]; rfl) (by decide) ?_
    refine z_aload_n C 41 0 dX7_count_40 rfl rfl ?_
    refine m_geti C hκ 44 0 (by decide) rfl q1995 rfl dX7_count_41 rfl ?_
    exact z_iret C dX7_count_44 rfl (Nat.le_of_ble_eq_true rfl) (Nat.le_of_ble_eq_true rfl) ⟨congrArg (fun z => some (Value.int (iI z))) (by clear C hκ hκl ; first | (simp_all [cnI]; done) | (simp_all [cnI] <;> omega) | (grind [cnI]) | (simp [cnI] at * <;> omega)), rfl⟩
  · skip
    refine z_tsIn C (k) 45 (off := 44) dX7_count_1 c1r (by omega) (by omega) (by rw [c1]; rfl) (by decide) ?_
    refine z_aload_n C 46 0 dX7_count_45 rfl rfl ?_
    refine m_geti C hκ 49 11 (by decide) rfl q2006 rfl dX7_count_46 rfl ?_
    exact z_iret C dX7_count_49 rfl (Nat.le_of_ble_eq_true rfl) (Nat.le_of_ble_eq_true rfl) ⟨congrArg (fun z => some (Value.int (iI z))) (by clear C hκ hκl ; first | (simp_all [cnI]; done) | (simp_all [cnI] <;> omega) | (grind [cnI]) | (simp [cnI] at * <;> omega)), rfl⟩
  · skip
    refine z_tsIn C (k) 50 (off := 49) dX7_count_1 c1r (by omega) (by omega) (by rw [c1]; rfl) (by decide) ?_
    refine z_aload_n C 51 0 dX7_count_50 rfl rfl ?_
    refine m_geti C hκ 54 27 (by decide) rfl q2022 rfl dX7_count_51 rfl ?_
    exact z_iret C dX7_count_54 rfl (Nat.le_of_ble_eq_true rfl) (Nat.le_of_ble_eq_true rfl) ⟨congrArg (fun z => some (Value.int (iI z))) (by clear C hκ hκl ; first | (simp_all [cnI]; done) | (simp_all [cnI] <;> omega) | (grind [cnI]) | (simp [cnI] at * <;> omega)), rfl⟩
  · skip
    refine z_tsIn C (k) 55 (off := 54) dX7_count_1 c1r (by omega) (by omega) (by rw [c1]; rfl) (by decide) ?_
    refine z_aload_n C 56 0 dX7_count_55 rfl rfl ?_
    refine m_geti C hκ 59 35 (by decide) rfl q2030 rfl dX7_count_56 rfl ?_
    exact z_iret C dX7_count_59 rfl (Nat.le_of_ble_eq_true rfl) (Nat.le_of_ble_eq_true rfl) ⟨congrArg (fun z => some (Value.int (iI z))) (by clear C hκ hκl ; first | (simp_all [cnI]; done) | (simp_all [cnI] <;> omega) | (grind [cnI]) | (simp [cnI] at * <;> omega)), rfl⟩
  · skip
    refine z_tsIn C (k) 60 (off := 59) dX7_count_1 c1r (by omega) (by omega) (by rw [c1]; rfl) (by decide) ?_
    refine z_aload_n C 61 0 dX7_count_60 rfl rfl ?_
    refine m_geti C hκ 64 36 (by decide) rfl q2031 rfl dX7_count_61 rfl ?_
    exact z_iret C dX7_count_64 rfl (Nat.le_of_ble_eq_true rfl) (Nat.le_of_ble_eq_true rfl) ⟨congrArg (fun z => some (Value.int (iI z))) (by clear C hκ hκl ; first | (simp_all [cnI]; done) | (simp_all [cnI] <;> omega) | (grind [cnI]) | (simp [cnI] at * <;> omega)), rfl⟩
  · skip
    refine z_tsIn C (k) 65 (off := 64) dX7_count_1 c1r (by omega) (by omega) (by rw [c1]; rfl) (by decide) ?_
    refine z_aload_n C 66 0 dX7_count_65 rfl rfl ?_
    refine m_geti C hκ 69 12 (by decide) rfl q2007 rfl dX7_count_66 rfl ?_
    exact z_iret C dX7_count_69 rfl (Nat.le_of_ble_eq_true rfl) (Nat.le_of_ble_eq_true rfl) ⟨congrArg (fun z => some (Value.int (iI z))) (by clear C hκ hκl ; first | (simp_all [cnI]; done) | (simp_all [cnI] <;> omega) | (grind [cnI]) | (simp [cnI] at * <;> omega)), rfl⟩
  · skip
    refine z_tsOut C 70 dX7_count_1 c1r c1 (by decide) ?_
    refine z_iconst C 71 dX7_count_70 rfl ?_
    exact z_iret C dX7_count_71 rfl (Nat.le_of_ble_eq_true rfl) (Nat.le_of_ble_eq_true rfl) ⟨congrArg (fun z => some (Value.int (iI z))) (by clear C hκ hκl ; first | (simp_all [cnI]; done) | (simp_all [cnI] <;> omega) | (grind [cnI]) | (simp [cnI] at * <;> omega)), rfl⟩
