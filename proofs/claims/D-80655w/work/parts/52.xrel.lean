/-! ===== the class's picture: which object stands for which number ===== -/
abbrev xQ (f : Nat → Option Nat) : (Nat → Int32) ⊕ (Nat → Int64) ⊕ (Nat → UInt32) ⊕ (Nat → UInt64) ⊕ (Nat → Option Nat) := .inr (.inr (.inr (.inr f)))
abbrev xA : Type := Nat → Int → Nat
def xo (σ : xA) (k : Nat) (z : Int) : Option Nat := if z < 0 then none else some (σ k z)
theorem xo_n {σ : xA} {k : Nat} {z : Int} (h : z < 0) : xo σ k z = none := if_pos h
theorem xo_y {σ : xA} {k : Nat} {z : Int} (h : 0 ≤ z) : xo σ k z = some (σ k z) := if_neg (by omega)
/-- the number of a type's class -/
def xci (w : mW) (t : Int) : Nat := if t < 8 then 3 else if w 1 t = 4 then 8 else if w 1 t = 3 then 4 else 5
/-- those above a type, as they are when all is laid out -/
def xL (w : mW) (t : Int) : List Int := if t < 8 then [t] else ancL w t
def xT8 (σ : xA) (w : mW) (t n : Int) : List Value := [.int (iI t), .int (iI (w 3 t)), .ref (σ 11 t), .int (iI (w 6 t)), .ref (σ 12 t), .int (iI n), .ref (σ 13 t), va_rf (xo σ 10 (w 5 t))]
def xTyG (σ : xA) (w : mW) (t n : Int) : List Value := xT8 σ w t n ++ (if xci w t = 5 then [va_rf (xo σ 10 (w 2 t)), .int (iI (bI (decide (w 1 t = 2))))] else if xci w t = 8 then [va_rf (xo σ 10 (w 4 t)), .ref (σ 10 8)] else [])
def xcA (θ : zTh) (w : mW) (t : Int) : ClassId := if t = 8 then θ.2.1 10 else if w 1 t = 4 then θ.2.1 13 else θ.2.1 12
/-- a row of items of a type -/
def xRow (θ : zTh) (σ : xA) (w : mW) (t : Int) (len : Nat) (v : Nat → Int) (e : va_E) : Prop :=
  (0 ≤ t ∧ t ≤ 4 ∧ ∃ f : Nat → Int32, e = .inl (θ.2.1 t.toNat, len, .inl f) ∧ ∀ j, j < len → f j = iI (v j)) ∨ (t = 5 ∧ ∃ f : Nat → Int64, e = .inl (θ.2.1 5, len, .inr (.inl f)) ∧ ∀ j, j < len → f j = lI (v j)) ∨
  (t = 6 ∧ ∃ f : Nat → UInt32, e = .inl (θ.2.1 6, len, .inr (.inr (.inl f))) ∧ ∀ j, j < len → f j = U32 (v j)) ∨ (t = 7 ∧ ∃ f : Nat → UInt64, e = .inl (θ.2.1 7, len, .inr (.inr (.inr (.inl f)))) ∧ ∀ j, j < len → f j = U64 (v j)) ∨
  (8 ≤ t ∧ ∃ f : Nat → Option Nat, e = .inl (xcA θ w t, len, xQ f) ∧ ∀ j, j < len → f j = xo σ 30 (v j))
def xBody (σ : xA) (w : mW) (m : Int) : va_E :=
  let u : Value := .ref (σ 0 0); let a : Value := .ref (σ 20 m); let x := w 23 m; let y := w 24 m
  if w 22 m = 1 then .inr (12, [a, u, .int (iI x), u]) else if w 22 m = 2 then .inr (13, [a, u, .ref (σ 20 x), u]) else if w 22 m = 3 then .inr (14, [a, u, .ref (σ 20 x), u, .int (iI y), u])
  else if w 22 m = 4 then .inr (15, [a, u, .int (iI x), u]) else if w 22 m = 5 then .inr (16, [a, u, .ref (σ 20 x), u]) else if w 22 m = 6 then .inr (17, [a, u, .int (iI x), u, .int (iI y), u])
  else if w 22 m = 7 then .inr (18, [a, u, .ref (σ 20 (w 25 m)), u, u]) else if w 22 m = 8 then .inr (21, [a, u, .int (iI x), u, .int (iI y), u]) else .inr (11, [a, u, u])
def xHasBody (w : mW) (m : Int) : Bool := decide (w 16 m ≠ 1) && !hasB w m 16
def xHasRow (w : mW) (m : Int) : Bool := decide (w 16 m = 1) && hasB w m 4
def xMem (σ : xA) (w : mW) (m : Int) : List Value := [.int (iI m), .ref (σ 10 (w 13 m)), .int (iI (w 14 m)), .int (iI (w 15 m)), .int (iI (bI (mb w 16 m))), va_rf (xo σ 10 (w 17 m)), .ref (σ 21 m), .int (iI (w 18 m)), .int (iI (bI (mb w 20 m))), .int (iI (bI (mb w 21 m))), va_rf (if xHasBody w m then some (σ 22 m) else none), va_rf (if xHasRow w m then some (σ 23 m) else none)]
/-- which numbers stand for objects -/
def xLv (w : mW) (Lf : Int → List Int) (k : Nat) (i : Int) : Prop :=
  (k ≤ 6 ∧ i = 0) ∨ ((k = 10 ∨ k = 11 ∨ k = 12 ∨ k = 13) ∧ 0 ≤ i ∧ i < w 0 0) ∨ ((k = 20 ∨ k = 21) ∧ 0 ≤ i ∧ i < w 11 0) ∨ (k = 22 ∧ 0 ≤ i ∧ i < w 11 0 ∧ xHasBody w i = true) ∨ (k = 23 ∧ 0 ≤ i ∧ i < w 11 0 ∧ xHasRow w i = true) ∨
  (k = 30 ∧ 0 ≤ i ∧ i < w 27 0) ∨ (k = 31 ∧ 0 ≤ i ∧ i < w 27 0 ∧ w 29 i = -1) ∨ (k = 32 ∧ 0 ≤ i ∧ i < w 27 0 ∧ w 29 i ≠ -1) ∨
  (k = 33 ∧ 0 ≤ i / 100 ∧ i / 100 < w 27 0 ∧ w 29 (i / 100) = -1 ∧ i % 100 < w 11 0 ∧ w 16 (i % 100) = 1 ∧ hasB w (i % 100) 4 = false ∧ w 13 (i % 100) ∈ Lf (w 28 (i / 100))) ∨ (k = 40 ∧ 0 ≤ i ∧ i < 8)
/-- what the object of a number is -/
def xOk (θ : zTh) (σ : xA) (w : mW) (Lf : Int → List Int) (k : Nat) (i : Int) (e : va_E) : Prop :=
  match k with
  | 0 => e = .inr (0, [.ref (σ 1 0), .int (iI (w 0 0)), .ref (σ 2 0), .int (iI (w 11 0)), .int (iI (w 12 0)), .ref (σ 3 0), .int (iI (w 27 0)), .ref (σ 4 0), .ref (σ 10 (w 34 0)), .ref (σ 5 0), .ref (σ 6 0), .int (iI (w 37 0)), .int (iI (w 38 0)), .int (iI (w 39 0))])
  | 1 => ∃ f, e = .inl (θ.2.1 8, 60, xQ f) ∧ ∀ j : Nat, (j : Int) < w 0 0 → f j = some (σ 10 j)
  | 2 => ∃ f, e = .inl (θ.2.1 9, 100, xQ f) ∧ ∀ j : Nat, (j : Int) < w 11 0 → f j = some (σ 20 j)
  | 3 => ∃ f, e = .inl (θ.2.1 10, 80, xQ f) ∧ ∀ j : Nat, (j : Int) < w 27 0 → f j = some (σ 30 j)
  | 4 => ∃ f, e = .inl (θ.2.1 11, 8, xQ f) ∧ ∀ j : Nat, j < 8 → f j = some (σ 40 j)
  | 5 => e = .inl (θ.1.1 1, 1, .inl (fun _ => iI (w 35 0)))
  | 6 => e = .inl (θ.1.1 1, 1, .inl (fun _ => iI (w 36 0)))
  | 10 => e = .inr (xci w i, xTyG σ w i (Lf i).length)
  | 11 => ∃ f, e = .inl (θ.2.1 8, 3, xQ f) ∧ ∀ j : Nat, (j : Int) < w 6 i → f j = some (σ 10 (w 7 (3 * i + j)))
  | 12 => ∃ f, e = .inl (θ.2.1 8, 60, xQ f) ∧ ∀ (j : Nat) (a : Int), (Lf i)[j]? = some a → f j = some (σ 10 a)
  | 13 => ∃ f : Nat → Int32, e = .inl (θ.2.1 0, 60, .inl f) ∧ ∀ j : Nat, j < 60 → f j = iI (bI (decide ((j : Int) ∈ Lf i)))
  | 20 => e = .inr (9, xMem σ w i)
  | 21 => ∃ f, e = .inl (θ.2.1 8, 3, xQ f) ∧ ∀ j : Nat, (j : Int) < w 18 i → f j = some (σ 10 (w 19 (3 * i + j)))
  | 22 => e = xBody σ w i
  | 23 => xRow θ σ w (w 17 i) 1 (fun _ => w 26 i) e
  | 30 => e = if w 29 i = -1 then .inr (24, [.int (iI i), .ref (σ 10 (w 28 i)), .int (iI (-1)), .ref (σ 31 i)]) else .inr (27, [.int (iI i), .ref (σ 10 (w 28 i)), .int (iI (-1)), .ref (σ 32 i), .int (iI (w 29 i))])
  | 31 => ∃ f, e = .inl (θ.2.1 14, 100, xQ f) ∧ ∀ j : Nat, (j : Int) < w 11 0 → w 16 j = 1 → hasB w j 4 = false → w 13 j ∈ Lf (w 28 i) → f j = some (σ 33 (100 * i + j))
  | 32 => xRow θ σ w (w 4 (w 28 i)) (w 29 i).toNat (fun j => w 31 (20 * i + j)) e
  | 33 => xRow θ σ w (w 17 (i % 100)) 1 (fun _ => w 30 i) e
  | 40 => e = .inr (6, [.int (iI (w 32 i)), .long (lI (if w 32 i = 8 then 0 else w 33 i)), va_rf (if w 32 i = 8 then xo σ 30 (w 33 i) else none)])
  | _ => True
def xM (θ : zTh) (σ : xA) (w : mW) (Lf : Int → List Int) (M : zMap) : Prop :=
  (∀ k i k' j, xLv w Lf k i → xLv w Lf k' j → σ k i = σ k' j → k = k' ∧ i = j) ∧ ∀ k i, xLv w Lf k i → ∃ e, M (σ k i) = some e ∧ xOk θ σ w Lf k i e
/-- what stands beside is as it was -/
def xK (σ : xA) (w : mW) (Lf : Int → List Int) (M M' : zMap) : Prop := ∀ a e, M a = some e → (∀ k i, xLv w Lf k i → σ k i ≠ a) → M' a = some e
theorem xK.refl {σ : xA} {w : mW} {Lf : Int → List Int} {M : zMap} : xK σ w Lf M M := fun _ _ h _ => h
/-- how the numbers of those above lie -/
def xLay (w : mW) : Prop := ∀ x : Int, 0 ≤ x → x < w 0 0 → rowL w x (ancL w x) ∧ ∀ b : Int, 0 ≤ b → b < w 0 0 → isa w x b = isaL w x b
/-- what the class's picture rests on -/
def xS (w : mW) : Prop := xLay w ∧ mS w ∧ mBT w ∧ (∀ t : Int, 8 ≤ t → t < w 0 0 → 1 ≤ w 1 t) ∧ (w 1 8 = 1 ∧ w 2 8 = -1) ∧ (∀ t : Int, 0 ≤ t → t < w 0 0 → (w 1 t = 0 ∨ w 1 t = 3 → w 2 t = -1) ∧ (w 1 t = 4 → w 2 t = 8 ∧ w 6 t = 0) ∧ (w 1 t ≠ 4 → w 4 t = -1) ∧ (t < 8 → w 6 t = 0)) ∧ (∀ t : Int, 0 ≤ t → t < w 0 0 → (clT w t = true → t ≠ 8 → clT w (w 2 t) = true) ∧ ∀ j : Int, 0 ≤ j → j < w 6 t → w 1 (w 7 (3 * t + j)) = 3)
section XM
variable {θ : zTh} {σ : xA} {w : mW} {Lf : Int → List Int} {M : zMap}
theorem xM.g (h : xM θ σ w Lf M) {k : Nat} (hk : k ≤ 6) : ∃ e, M (σ k 0) = some e ∧ xOk θ σ w Lf k 0 e := h.2 k 0 (Or.inl ⟨hk, rfl⟩)
theorem lvT {k : Nat} {t : Int} (hk : k = 10 ∨ k = 11 ∨ k = 12 ∨ k = 13) (h0 : 0 ≤ t) (h1 : t < w 0 0) : xLv w Lf k t := Or.inr (Or.inl ⟨hk, h0, h1⟩)
theorem lvM {k : Nat} {t : Int} (hk : k = 20 ∨ k = 21) (h0 : 0 ≤ t) (h1 : t < w 11 0) : xLv w Lf k t := Or.inr (Or.inr (Or.inl ⟨hk, h0, h1⟩))
theorem xM.o (h : xM θ σ w Lf M) : M (σ 0 0) = some (.inr (0, [.ref (σ 1 0), .int (iI (w 0 0)), .ref (σ 2 0), .int (iI (w 11 0)), .int (iI (w 12 0)), .ref (σ 3 0), .int (iI (w 27 0)), .ref (σ 4 0), .ref (σ 10 (w 34 0)), .ref (σ 5 0), .ref (σ 6 0), .int (iI (w 37 0)), .int (iI (w 38 0)), .int (iI (w 39 0))])) := by
  obtain ⟨e, h1, h2⟩ := h.g (k := 0) (by decide); rw [h1, show e = _ from h2]
theorem xM.ty (h : xM θ σ w Lf M) {t : Int} (h0 : 0 ≤ t) (h1 : t < w 0 0) : M (σ 10 t) = some (.inr (xci w t, xTyG σ w t (Lf t).length)) := by
  obtain ⟨e, g1, g2⟩ := h.2 10 t (lvT (Or.inl rfl) h0 h1); rw [g1, show e = _ from g2]
theorem xM.fc (h : xM θ σ w Lf M) {t : Int} (h0 : 0 ≤ t) (h1 : t < w 0 0) : ∃ f, M (σ 11 t) = some (.inl (θ.2.1 8, 3, xQ f)) ∧ ∀ j : Nat, (j : Int) < w 6 t → f j = some (σ 10 (w 7 (3 * t + j))) := by
  obtain ⟨e, g1, f, g2, g3⟩ := h.2 11 t (lvT (Or.inr (Or.inl rfl)) h0 h1); exact ⟨f, by rw [g1, g2], g3⟩
theorem xM.ab (h : xM θ σ w Lf M) {t : Int} (h0 : 0 ≤ t) (h1 : t < w 0 0) : ∃ f, M (σ 12 t) = some (.inl (θ.2.1 8, 60, xQ f)) ∧ ∀ (j : Nat) (a : Int), (Lf t)[j]? = some a → f j = some (σ 10 a) := by
  obtain ⟨e, g1, f, g2, g3⟩ := h.2 12 t (lvT (Or.inr (Or.inr (Or.inl rfl))) h0 h1); exact ⟨f, by rw [g1, g2], g3⟩
theorem xM.hs (h : xM θ σ w Lf M) {t : Int} (h0 : 0 ≤ t) (h1 : t < w 0 0) : ∃ f : Nat → Int32, M (σ 13 t) = some (.inl (θ.2.1 0, 60, .inl f)) ∧ ∀ j : Nat, j < 60 → f j = iI (bI (decide ((j : Int) ∈ Lf t))) := by
  obtain ⟨e, g1, f, g2, g3⟩ := h.2 13 t (lvT (Or.inr (Or.inr (Or.inr rfl))) h0 h1); exact ⟨f, by rw [g1, g2], g3⟩
theorem xM.mem (h : xM θ σ w Lf M) {m : Int} (h0 : 0 ≤ m) (h1 : m < w 11 0) : M (σ 20 m) = some (.inr (9, xMem σ w m)) := by
  obtain ⟨e, g1, g2⟩ := h.2 20 m (lvM (Or.inl rfl) h0 h1); rw [g1, show e = _ from g2]
theorem xM.pm (h : xM θ σ w Lf M) {m : Int} (h0 : 0 ≤ m) (h1 : m < w 11 0) : ∃ f, M (σ 21 m) = some (.inl (θ.2.1 8, 3, xQ f)) ∧ ∀ j : Nat, (j : Int) < w 18 m → f j = some (σ 10 (w 19 (3 * m + j))) := by
  obtain ⟨e, g1, f, g2, g3⟩ := h.2 21 m (lvM (Or.inr rfl) h0 h1); exact ⟨f, by rw [g1, g2], g3⟩
theorem xM.bd (h : xM θ σ w Lf M) {m : Int} (h0 : 0 ≤ m) (h1 : m < w 11 0) (hb : xHasBody w m = true) : M (σ 22 m) = some (xBody σ w m) := by
  obtain ⟨e, g1, g2⟩ := h.2 22 m (Or.inr (Or.inr (Or.inr (Or.inl ⟨rfl, h0, h1, hb⟩)))); rw [g1, show e = _ from g2]
theorem xM.inT (h : xM θ σ w Lf M) {a b : Int} (a0 : 0 ≤ a) (a1 : a < w 0 0) (b0 : 0 ≤ b) (b1 : b < w 0 0) : σ 10 a = σ 10 b ↔ a = b := ⟨fun e => (h.1 _ _ _ _ (lvT (Or.inl rfl) a0 a1) (lvT (Or.inl rfl) b0 b1) e).2, fun e => by rw [e]⟩
theorem xM.inM (h : xM θ σ w Lf M) {a b : Int} (a0 : 0 ≤ a) (a1 : a < w 11 0) (b0 : 0 ≤ b) (b1 : b < w 11 0) : σ 20 a = σ 20 b ↔ a = b := ⟨fun e => (h.1 _ _ _ _ (lvM (Or.inl rfl) a0 a1) (lvM (Or.inl rfl) b0 b1) e).2, fun e => by rw [e]⟩
theorem xci_3 {t : Int} (h : t < 8) : xci w t = 3 := if_pos h
theorem xci_8 {t : Int} (h : 8 ≤ t) (h' : w 1 t = 4) : xci w t = 8 := by unfold xci; rw [if_neg (by omega), if_pos h']
theorem xci_4 {t : Int} (h : 8 ≤ t) (h' : w 1 t = 3) : xci w t = 4 := by unfold xci; rw [if_neg (by omega), if_neg (by omega), if_pos h']
theorem xci_5 {t : Int} (h : 8 ≤ t) (h' : w 1 t = 1 ∨ w 1 t = 2) : xci w t = 5 := by unfold xci; rw [if_neg (by omega), if_neg (by omega), if_neg (by omega)]
/-- of which class a type is -/
theorem xS.cls (h : xS w) {t : Int} (h0 : 0 ≤ t) (h1 : t < w 0 0) : (t < 8 ∧ xci w t = 3 ∧ w 1 t = 0) ∨ (8 ≤ t ∧ w 1 t = 3 ∧ xci w t = 4) ∨ (8 ≤ t ∧ (w 1 t = 1 ∨ w 1 t = 2) ∧ xci w t = 5) ∨ (8 ≤ t ∧ w 1 t = 4 ∧ xci w t = 8) := by
  obtain ⟨_, a, b, c, d, e⟩ := h
  have hs := (b t h0 h1).2.2.2.2.2
  by_cases h8 : t < 8
  · exact Or.inl ⟨h8, xci_3 h8, hs.2.2 h8⟩
  · have := c t (by omega) h1
    have hs4 : w 1 t = 1 ∨ w 1 t = 2 ∨ w 1 t = 3 ∨ w 1 t = 4 := by omega
    rcases hs4 with g | g | g | g
    · exact Or.inr (Or.inr (Or.inl ⟨by omega, Or.inl g, xci_5 (by omega) (Or.inl g)⟩))
    · exact Or.inr (Or.inr (Or.inl ⟨by omega, Or.inr g, xci_5 (by omega) (Or.inr g)⟩))
    · exact Or.inr (Or.inl ⟨by omega, g, xci_4 (by omega) g⟩)
    · exact Or.inr (Or.inr (Or.inr ⟨by omega, g, xci_8 (by omega) g⟩))
theorem xTy_5 {t n : Int} (h : xci w t = 5) : xTyG σ w t n = [.int (iI t), .int (iI (w 3 t)), .ref (σ 11 t), .int (iI (w 6 t)), .ref (σ 12 t), .int (iI n), .ref (σ 13 t), va_rf (xo σ 10 (w 5 t)), va_rf (xo σ 10 (w 2 t)), .int (iI (bI (decide (w 1 t = 2))))] := by unfold xTyG; rw [if_pos h]; rfl
theorem xTy_8 {t n : Int} (h : xci w t = 8) : xTyG σ w t n = [.int (iI t), .int (iI (w 3 t)), .ref (σ 11 t), .int (iI (w 6 t)), .ref (σ 12 t), .int (iI n), .ref (σ 13 t), va_rf (xo σ 10 (w 5 t)), va_rf (xo σ 10 (w 4 t)), .ref (σ 10 8)] := by unfold xTyG; rw [if_neg (by omega), if_pos h]; rfl
theorem xTy_k {t n : Int} {k : Nat} {v : Value} (hk : (xT8 σ w t n)[k]? = some v) : (xTyG σ w t n)[k]? = some v := by
  unfold xTyG
  rw [List.getElem?_append_left (List.getElem?_eq_some_iff.mp hk).1]; exact hk
end XM
section XRows
variable {κ : zK} {own nm : String} {cc : ByteArray} {nL : Nat} {ret : Option FieldType} {rm : Room} {P : Option Value → (Heap → Prop) → Prop} {n k pc : Nat} {lv : List (Nat × Value)} {st rest : List Value}
variable {θ : zTh} {σ : xA} {w : mW} {Lf : Int → List Int} {M N : zMap} {index : Nat} {ref : String}
/-- a field that all types have -/
theorem x_tget (C : ZC κ own nm cc nL ret rm P) (hκ : κ.1 = θ) {t : Int} {v : Value} (q kf : Nat) (hX : xM θ σ w Lf M) (hs : xS w) (h0 : 0 ≤ t) (h1 : t < w 0 0) (hk : kf < 8) (e4 : TX4 kf = TX3 kf) (e5 : TX5 kf = TX3 kf) (e8 : TX8 kf = TX3 kf) (hlink : Cond.fieldLink own index ref (TX3 kf).2.1 (TX3 kf).2.2.1 ∈ lw_all) (hsame : ref = (TX3 kf).1 ∨ Cond.sameField ref (TX3 kf).1 (TX3 kf).2.1 (TX3 kf).2.2.1 ∈ lw_all) (hv : (xT8 σ w t (Lf t).length)[kf]? = some v) (d : decode cc pc = .ok (.getfield index, 3)) (hq : pc + 3 = q) (kk : Z κ (zP θ M N) n k q lv (v :: rest)) : Z κ (zP θ M N) n k pc lv (.ref (σ 10 t) :: rest) := by
  have hM := hX.ty h0 h1
  have hv' := xTy_k hv
  rcases hs.cls h0 h1 with ⟨-, h, -⟩ | ⟨-, -, h⟩ | ⟨-, -, h⟩ | ⟨-, -, h⟩ <;> rw [h] at hM
  · exact z_getf C hκ q kf zk_X3 hM (by omega) hlink hsame hv' d hq kk
  · exact z_getf C hκ q kf zk_X4 hM (by omega) (by rw [e4]; exact hlink) (by rw [e4]; exact hsame) hv' d hq kk
  · exact z_getf C hκ q kf zk_X5 hM (by omega) (by rw [e5]; exact hlink) (by rw [e5]; exact hsame) hv' d hq kk
  · exact z_getf C hκ q kf zk_X8 hM (by omega) (by rw [e8]; exact hlink) (by rw [e8]; exact hsame) hv' d hq kk
end XRows
