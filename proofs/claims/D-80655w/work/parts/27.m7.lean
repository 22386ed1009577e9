/-! ===== numbers with points: rows, and exact values ===== -/
section ZF
variable {κ : zK} {own nm : String} {cc : ByteArray} {nL : Nat} {ret : Option FieldType} {rm : Room} {P : Option Value → (Heap → Prop) → Prop} {Pic : Heap → Prop} {n k pc : Nat} {lv : List (Nat × Value)} {rest : List Value}
theorem z_dret (C : ZC κ own nm cc nL (some .double) rm P) {v : UInt64} (d : decode cc pc = .ok (.dreturn, 1)) (h1 : n ≤ rm.cells) (h2 : k ≤ rm.slots) (hp : P (some (.double v)) Pic) : Z κ Pic n k pc lv [.double v] := by
  obtain ⟨θ, p, l, e, R, s, m, args, below, meth, c, Q⟩ := κ
  obtain ⟨hx, hb, hml, hown, hts, hU, hlk, hret, hnm, hR, hQ⟩ := C
  intro H locs ls hP hS hl
  refine hQ H locs n k _ (W.widen h1 h2 ?_)
  exact W.dret hx hb hret (fun t ht hW => ⟨⟨_, Pic, rfl, hp, by rw [ht]; exact hP⟩, hS.F ht⟩) hS.2.2 d hlk
theorem z_fret (C : ZC κ own nm cc nL (some .float) rm P) {v : UInt32} (d : decode cc pc = .ok (.freturn, 1)) (h1 : n ≤ rm.cells) (h2 : k ≤ rm.slots) (hp : P (some (.float v)) Pic) : Z κ Pic n k pc lv [.float v] := by
  obtain ⟨θ, p, l, e, R, s, m, args, below, meth, c, Q⟩ := κ
  obtain ⟨hx, hb, hml, hown, hts, hU, hlk, hret, hnm, hR, hQ⟩ := C
  intro H locs ls hP hS hl
  refine hQ H locs n k _ (W.widen h1 h2 ?_)
  exact W.fret hx hb hret (fun t ht hW => ⟨⟨_, Pic, rfl, hp, by rw [ht]; exact hP⟩, hS.F ht⟩) hS.2.2 d hlk
theorem zcmpI (op : CmpOp) (a b : Int) : Op.cmpValue (some (compare a b)) op = iI (zcmp a b) := by
  unfold zcmp
  by_cases h1 : a < b
  · rw [if_pos h1, show compare a b = .lt from by simp [compare, compareOfLessAndEq, h1]]; cases op <;> rfl
  · by_cases h2 : a = b
    · rw [if_neg h1, if_pos h2, show compare a b = .eq from by simp [compare, compareOfLessAndEq, h2]]; cases op <;> rfl
    · rw [if_neg h1, if_neg h2, show compare a b = .gt from by simp [compare, compareOfLessAndEq, h1, h2]]; cases op <;> rfl
theorem z_dcmp (C : ZC κ own nm cc nL ret rm P) {x y : UInt64} {a b : Int} {op : CmpOp} (q : Nat) (d : decode cc pc = .ok (.dcmp op, 1)) (hc : FP.dcmp x y = some (compare a b)) (hq : pc + 1 = q) (kk : Z κ Pic n k q lv (.int (iI (zcmp a b)) :: rest)) : Z κ Pic n k pc lv (.double y :: .double x :: rest) := by
  obtain ⟨θ, p, l, e, R, s, m, args, below, meth, c, Q⟩ := κ
  obtain ⟨hx, hb, hml, hown, hts, hU, hlk, hret, hnm, hR, hQ⟩ := C
  subst hq
  intro H locs ls hP hS hl
  refine lv_dcmp hx hb d ?_
  rw [hc, zcmpI]
  exact kk H locs ls hP hS hl
end ZF
theorem lgp_mul {A i : Nat} (h : A ≠ 0) : (A * 2 ^ i).log2 = A.log2 + i := by
  have hp : 0 < 2 ^ i := Nat.two_pow_pos i
  rw [Nat.log2_eq_iff (Nat.mul_ne_zero h (by omega))]
  have h1 := Nat.log2_self_le h
  have h2 := Nat.lt_log2_self (n := A)
  constructor
  · rw [Nat.pow_add]; exact Nat.mul_le_mul_right _ h1
  · rw [show A.log2 + i + 1 = A.log2 + 1 + i by omega, Nat.pow_add]; exact Nat.mul_lt_mul_of_pos_right h2 hp
theorem pow_cancel {a b i j k : Nat} (h : a * 2 ^ i = b * 2 ^ j) (hi : k ≤ i) (hj : k ≤ j) : a * 2 ^ (i - k) = b * 2 ^ (j - k) := by
  have e1 : 2 ^ i = 2 ^ (i - k) * 2 ^ k := by rw [← Nat.pow_add, Nat.sub_add_cancel hi]
  have e2 : 2 ^ j = 2 ^ (j - k) * 2 ^ k := by rw [← Nat.pow_add, Nat.sub_add_cancel hj]
  rw [e1, e2, ← Nat.mul_assoc, ← Nat.mul_assoc] at h
  exact Nat.eq_of_mul_eq_mul_right (Nat.two_pow_pos k) h
theorem lead1 {A : Nat} (h : A ≠ 0) : FP.Core.leading A 1 = (A.log2 : Int) := by
  unfold FP.Core.leading
  simp only [show Nat.log2 1 = 0 from by decide]
  rw [if_pos]
  · simp
  · have := Nat.log2_self_le h
    simp; exact this
/-- rounding of a value that the format has -/
theorem rnd_ex {f : FP.Core.Fmt} (hp : 1 ≤ f.p) {s : Bool} {A c : Nat} {e q K : Int} (hf : FP.Core.fits f (.fin s c q)) (he : 0 ≤ e + K) (hq : 0 ≤ q + K) (h : A * 2 ^ (e + K).toNat = c * 2 ^ (q + K).toNat) : FP.Core.roundRatio f s A 1 e = .fin s c q := by
  obtain ⟨f1, f2, f3, f4⟩ := hf
  have ht : 0 < f.tails := Nat.two_pow_pos _
  unfold FP.Core.roundRatio
  by_cases hA : A = 0
  · rw [if_pos hA]
    have hc : c = 0 := by
      rw [hA, Nat.zero_mul] at h
      rcases Nat.mul_eq_zero.mp h.symm with h | h
      · exact h
      · have := Nat.two_pow_pos (q + K).toNat; omega
    subst hc
    rcases f4 with f4 | f4
    · rw [f4]
    · omega
  · rw [if_neg hA]
    have hc : c ≠ 0 := by
      intro hc
      rw [hc, Nat.zero_mul] at h
      rcases Nat.mul_eq_zero.mp h with h | h
      · exact hA h
      · have := Nat.two_pow_pos (e + K).toNat; omega
    have hl : A.log2 + (e + K).toNat = c.log2 + (q + K).toNat := by rw [← lgp_mul hA, ← lgp_mul hc, h]
    have l1 : c.log2 < f.p := (Nat.log2_lt hc).mpr f1
    have hquant : FP.Core.quantum f A 1 e = q := by
      unfold FP.Core.quantum
      rw [lead1 hA]
      rcases f4 with f4 | f4
      · rw [f4]; rw [f4] at hl hq
        omega
      · have l2 : f.p - 1 ≤ c.log2 := (Nat.le_log2 hc).mpr f4
        omega
    rw [hquant]
    unfold FP.Core.roundAt FP.Core.unitsNum FP.Core.unitsDen
    have hex : A * 2 ^ (e - q).toNat = c * 2 ^ (q - e).toNat := by
      by_cases hqe : q ≤ e
      · have := pow_cancel h (k := (q + K).toNat) (by omega) (Nat.le_refl _)
        rw [Nat.sub_self, show (e + K).toNat - (q + K).toNat = (e - q).toNat by omega] at this
        rw [this, show (q - e).toNat = 0 by omega]
      · have := pow_cancel h (k := (e + K).toNat) (Nat.le_refl _) (by omega)
        rw [Nat.sub_self, show (q + K).toNat - (e + K).toNat = (q - e).toNat by omega] at this
        rw [← this, show (e - q).toNat = 0 by omega]
    rw [hex, Nat.one_mul]
    have hB : 0 < 2 ^ (q - e).toNat := Nat.two_pow_pos _
    have hn : FP.Core.nearest (c * 2 ^ (q - e).toNat) (2 ^ (q - e).toNat) = c := by
      unfold FP.Core.nearest
      rw [Nat.mul_mod_left, if_pos (by omega), Nat.mul_div_cancel _ hB]
    rw [hn]
    unfold FP.Core.settle FP.Core.bound
    rw [if_pos f1, if_pos f3]
abbrev v64 (x : UInt64) : FP.Core.Datum := FP.Core.decode FP.Core.b64 x.toNat
abbrev v32 (x : UInt32) : FP.Core.Datum := FP.Core.decode FP.Core.b32 x.toNat
theorem fqmin : FP.Core.b64.qmin = -1074 := by decide
theorem fqmax : FP.Core.b64.qmax = 971 := by decide
theorem ftails : FP.Core.b64.tails = 4503599627370496 := by decide
theorem fexps : FP.Core.b64.exps = 2048 := by decide
theorem gqmin : FP.Core.b32.qmin = -149 := by decide
theorem gqmax : FP.Core.b32.qmax = 104 := by decide
theorem gtails : FP.Core.b32.tails = 8388608 := by decide
theorem gexps : FP.Core.b32.exps = 256 := by decide
theorem fitsI {s : Bool} {c : Nat} {q : Int} : FP.Core.fits FP.Core.b64 (.fin s c q) ↔ c < 9007199254740992 ∧ -1074 ≤ q ∧ q ≤ 971 ∧ (q = -1074 ∨ 4503599627370496 ≤ c) := by
  show (c < 2 ^ 53 ∧ FP.Core.b64.qmin ≤ q ∧ q ≤ FP.Core.b64.qmax ∧ (q = FP.Core.b64.qmin ∨ FP.Core.b64.tails ≤ c)) ↔ _
  rw [fqmin, fqmax, ftails]
theorem gitsI {s : Bool} {c : Nat} {q : Int} : FP.Core.fits FP.Core.b32 (.fin s c q) ↔ c < 16777216 ∧ -149 ≤ q ∧ q ≤ 104 ∧ (q = -149 ∨ 8388608 ≤ c) := by
  show (c < 2 ^ 24 ∧ FP.Core.b32.qmin ≤ q ∧ q ≤ FP.Core.b32.qmax ∧ (q = FP.Core.b32.qmin ∨ FP.Core.b32.tails ≤ c)) ↔ _
  rw [gqmin, gqmax, gtails]
/-- the bits of a number, by its sign, its figures and its exponent -/
def fB (s : Bool) (c : Nat) (q : Int) : Nat := (if s then 9223372036854775808 else 0) + (if c < 4503599627370496 then c else ((q + 1074).toNat + 1) * 4503599627370496 + (c - 4503599627370496))
def gB (s : Bool) (c : Nat) (q : Int) : Nat := (if s then 2147483648 else 0) + (if c < 8388608 then c else ((q + 149).toNat + 1) * 8388608 + (c - 8388608))
theorem enc64 {s : Bool} {c : Nat} {q : Int} : FP.Core.encode FP.Core.b64 (.fin s c q) = fB s c q := by
  unfold fB
  show (if c < FP.Core.b64.tails then FP.Core.assemble FP.Core.b64 s 0 c else FP.Core.assemble FP.Core.b64 s ((q - FP.Core.b64.qmin).toNat + 1) (c - FP.Core.b64.tails)) = _
  unfold FP.Core.assemble
  rw [ftails, fexps, fqmin, show q - -1074 = q + 1074 by omega]
  cases s <;> simp <;> split <;> omega
theorem enc32 {s : Bool} {c : Nat} {q : Int} : FP.Core.encode FP.Core.b32 (.fin s c q) = gB s c q := by
  unfold gB
  show (if c < FP.Core.b32.tails then FP.Core.assemble FP.Core.b32 s 0 c else FP.Core.assemble FP.Core.b32 s ((q - FP.Core.b32.qmin).toNat + 1) (c - FP.Core.b32.tails)) = _
  unfold FP.Core.assemble
  rw [gtails, gexps, gqmin, show q - -149 = q + 149 by omega]
  cases s <;> simp <;> split <;> omega
theorem dec64 (n : Nat) : FP.Core.decode FP.Core.b64 n = if n / 4503599627370496 % 2048 = 2047 then (if n % 4503599627370496 = 0 then .inf (n / 4503599627370496 / 2048 % 2 == 1) else .nan) else if n / 4503599627370496 % 2048 = 0 then .fin (n / 4503599627370496 / 2048 % 2 == 1) (n % 4503599627370496) (-1074) else .fin (n / 4503599627370496 / 2048 % 2 == 1) (4503599627370496 + n % 4503599627370496) (-1074 + ((n / 4503599627370496 % 2048 : Nat) : Int) - 1) := by
  unfold FP.Core.decode FP.Core.fieldE FP.Core.fieldT FP.Core.fieldS
  rw [ftails, fexps, fqmin]
  simp only [show (2048 : Nat) - 1 = 2047 from rfl, Int.add_sub_assoc]
theorem dec32 (n : Nat) : FP.Core.decode FP.Core.b32 n = if n / 8388608 % 256 = 255 then (if n % 8388608 = 0 then .inf (n / 8388608 / 256 % 2 == 1) else .nan) else if n / 8388608 % 256 = 0 then .fin (n / 8388608 / 256 % 2 == 1) (n % 8388608) (-149) else .fin (n / 8388608 / 256 % 2 == 1) (8388608 + n % 8388608) (-149 + ((n / 8388608 % 256 : Nat) : Int) - 1) := by
  unfold FP.Core.decode FP.Core.fieldE FP.Core.fieldT FP.Core.fieldS
  rw [gtails, gexps, gqmin]
  simp only [show (256 : Nat) - 1 = 255 from rfl, Int.add_sub_assoc]
theorem dec_fB {s : Bool} {c : Nat} {q : Int} (h : FP.Core.fits FP.Core.b64 (.fin s c q)) : FP.Core.decode FP.Core.b64 (fB s c q) = .fin s c q ∧ fB s c q < 2 ^ 64 := by
  rw [fitsI] at h
  rw [dec64]
  unfold fB
  by_cases hc : c < 4503599627370496
  · have hq : q = -1074 := by omega
    subst hq
    cases s
    · simp only [hc, if_true, Bool.false_eq_true, if_false, Nat.zero_add]
      rw [if_neg (by omega), if_pos (by omega), Nat.mod_eq_of_lt hc, show c / 4503599627370496 / 2048 % 2 = 0 by omega]
      exact ⟨rfl, by omega⟩
    · simp only [hc, if_true]
      rw [if_neg (by omega), if_pos (by omega), show (9223372036854775808 + c) % 4503599627370496 = c by omega, show (9223372036854775808 + c) / 4503599627370496 / 2048 % 2 = 1 by omega]
      exact ⟨rfl, by omega⟩
  · have hE : 1 ≤ (q + 1074).toNat + 1 ∧ (q + 1074).toNat + 1 ≤ 2046 := by omega
    have hq : q = -1074 + (((q + 1074).toNat + 1 : Nat) : Int) - 1 := by omega
    generalize (q + 1074).toNat + 1 = E at hE hq
    cases s
    · simp only [hc, if_false, Bool.false_eq_true, Nat.zero_add]
      have e1 : (E * 4503599627370496 + (c - 4503599627370496)) / 4503599627370496 % 2048 = E := by omega
      rw [e1, if_neg (by omega), if_neg (by omega), show (E * 4503599627370496 + (c - 4503599627370496)) / 4503599627370496 / 2048 % 2 = 0 by omega, show 4503599627370496 + (E * 4503599627370496 + (c - 4503599627370496)) % 4503599627370496 = c by omega, ← hq]
      exact ⟨rfl, by omega⟩
    · simp only [hc, if_false, if_true]
      have e1 : (9223372036854775808 + (E * 4503599627370496 + (c - 4503599627370496))) / 4503599627370496 % 2048 = E := by omega
      rw [e1, if_neg (by omega), if_neg (by omega), show (9223372036854775808 + (E * 4503599627370496 + (c - 4503599627370496))) / 4503599627370496 / 2048 % 2 = 1 by omega, show 4503599627370496 + (9223372036854775808 + (E * 4503599627370496 + (c - 4503599627370496))) % 4503599627370496 = c by omega, ← hq]
      exact ⟨rfl, by omega⟩
theorem dec_gB {s : Bool} {c : Nat} {q : Int} (h : FP.Core.fits FP.Core.b32 (.fin s c q)) : FP.Core.decode FP.Core.b32 (gB s c q) = .fin s c q ∧ gB s c q < 2 ^ 32 := by
  rw [gitsI] at h
  rw [dec32]
  unfold gB
  by_cases hc : c < 8388608
  · have hq : q = -149 := by omega
    subst hq
    cases s
    · simp only [hc, if_true, Bool.false_eq_true, if_false, Nat.zero_add]
      rw [if_neg (by omega), if_pos (by omega), Nat.mod_eq_of_lt hc, show c / 8388608 / 256 % 2 = 0 by omega]
      exact ⟨rfl, by omega⟩
    · simp only [hc, if_true]
      rw [if_neg (by omega), if_pos (by omega), show (2147483648 + c) % 8388608 = c by omega, show (2147483648 + c) / 8388608 / 256 % 2 = 1 by omega]
      exact ⟨rfl, by omega⟩
  · have hE : 1 ≤ (q + 149).toNat + 1 ∧ (q + 149).toNat + 1 ≤ 254 := by omega
    have hq : q = -149 + (((q + 149).toNat + 1 : Nat) : Int) - 1 := by omega
    generalize (q + 149).toNat + 1 = E at hE hq
    cases s
    · simp only [hc, if_false, Bool.false_eq_true, Nat.zero_add]
      have e1 : (E * 8388608 + (c - 8388608)) / 8388608 % 256 = E := by omega
      rw [e1, if_neg (by omega), if_neg (by omega), show (E * 8388608 + (c - 8388608)) / 8388608 / 256 % 2 = 0 by omega, show 8388608 + (E * 8388608 + (c - 8388608)) % 8388608 = c by omega, ← hq]
      exact ⟨rfl, by omega⟩
    · simp only [hc, if_false, if_true]
      have e1 : (2147483648 + (E * 8388608 + (c - 8388608))) / 8388608 % 256 = E := by omega
      rw [e1, if_neg (by omega), if_neg (by omega), show (2147483648 + (E * 8388608 + (c - 8388608))) / 8388608 / 256 % 2 = 1 by omega, show 8388608 + (2147483648 + (E * 8388608 + (c - 8388608))) % 8388608 = c by omega, ← hq]
      exact ⟨rfl, by omega⟩
/-- bits that are a number or endless -/
theorem dec_in64 {x : UInt64} (h : x.toNat % 9223372036854775808 < 9218868437227405312) : ∃ s c q, FP.Core.fits FP.Core.b64 (.fin s c q) ∧ x.toNat = fB s c q := by
  have hx := x.toNat_lt
  generalize x.toNat = n at h hx
  refine ⟨decide (9223372036854775808 ≤ n), if n / 4503599627370496 % 2048 = 0 then n % 4503599627370496 else 4503599627370496 + n % 4503599627370496, if n / 4503599627370496 % 2048 = 0 then -1074 else -1074 + ((n / 4503599627370496 % 2048 : Nat) : Int) - 1, ?_, ?_⟩
  · rw [fitsI]
    by_cases h0 : n / 4503599627370496 % 2048 = 0
    · rw [if_pos h0, if_pos h0]; omega
    · rw [if_neg h0, if_neg h0]; omega
  · unfold fB
    by_cases h0 : n / 4503599627370496 % 2048 = 0
    · have hc : n % 4503599627370496 < 4503599627370496 := by omega
      by_cases hs : 9223372036854775808 ≤ n
      · simp only [hs, h0, decide_true, if_true, hc]; omega
      · simp only [hs, h0, decide_false, if_true, if_false, Bool.false_eq_true, hc]; omega
    · have hc : ¬ 4503599627370496 + n % 4503599627370496 < 4503599627370496 := by omega
      have he : (-1074 + ((n / 4503599627370496 % 2048 : Nat) : Int) - 1 + 1074).toNat + 1 = n / 4503599627370496 % 2048 := by omega
      by_cases hs : 9223372036854775808 ≤ n
      · simp only [hs, h0, decide_true, if_true, if_false, hc, he]; omega
      · simp only [hs, h0, decide_false, if_false, Bool.false_eq_true, hc, he]; omega
theorem dec_in32 {x : UInt32} (h : x.toNat % 2147483648 < 2139095040) : ∃ s c q, FP.Core.fits FP.Core.b32 (.fin s c q) ∧ x.toNat = gB s c q := by
  have hx := x.toNat_lt
  generalize x.toNat = n at h hx
  refine ⟨decide (2147483648 ≤ n), if n / 8388608 % 256 = 0 then n % 8388608 else 8388608 + n % 8388608, if n / 8388608 % 256 = 0 then -149 else -149 + ((n / 8388608 % 256 : Nat) : Int) - 1, ?_, ?_⟩
  · rw [gitsI]
    by_cases h0 : n / 8388608 % 256 = 0
    · rw [if_pos h0, if_pos h0]; omega
    · rw [if_neg h0, if_neg h0]; omega
  · unfold gB
    by_cases h0 : n / 8388608 % 256 = 0
    · have hc : n % 8388608 < 8388608 := by omega
      by_cases hs : 2147483648 ≤ n
      · simp only [hs, h0, decide_true, if_true, hc]; omega
      · simp only [hs, h0, decide_false, if_true, if_false, Bool.false_eq_true, hc]; omega
    · have hc : ¬ 8388608 + n % 8388608 < 8388608 := by omega
      have he : (-149 + ((n / 8388608 % 256 : Nat) : Int) - 1 + 149).toNat + 1 = n / 8388608 % 256 := by omega
      by_cases hs : 2147483648 ≤ n
      · simp only [hs, h0, decide_true, if_true, if_false, hc, he]; omega
      · simp only [hs, h0, decide_false, if_false, Bool.false_eq_true, hc, he]; omega
/-- a whole number of the least ones, with a sign -/
def fN (s : Bool) (n : Nat) (x : UInt64) : Prop := ∃ c q, FP.Core.fits FP.Core.b64 (.fin s c q) ∧ x.toNat = fB s c q ∧ c * 2 ^ (q + 1074).toNat = n
def gN (s : Bool) (n : Nat) (x : UInt32) : Prop := ∃ c q, FP.Core.fits FP.Core.b32 (.fin s c q) ∧ x.toNat = gB s c q ∧ c * 2 ^ (q + 149).toNat = n
def fRep (n : Nat) : Prop := ∃ c q, (∀ s, FP.Core.fits FP.Core.b64 (.fin s c q)) ∧ c * 2 ^ (q + 1074).toNat = n
def gRep (n : Nat) : Prop := ∃ c q, (∀ s, FP.Core.fits FP.Core.b32 (.fin s c q)) ∧ c * 2 ^ (q + 149).toNat = n
theorem fRep_p : ∀ (p c : Nat), c < 9007199254740992 → p ≤ 2045 → fRep (c * 2 ^ p)
  | 0, c, h, _ => ⟨c, -1074, fun s => fitsI.mpr ⟨h, by omega, by omega, Or.inl rfl⟩, by simp⟩
  | p + 1, c, h, hp => by
    by_cases h2 : c < 4503599627370496
    · have := fRep_p p (2 * c) (by omega) (by omega)
      rw [show c * 2 ^ (p + 1) = 2 * c * 2 ^ p by rw [Nat.pow_succ]; ac_rfl]; exact this
    · exact ⟨c, (p : Int) + 1 - 1074, fun s => fitsI.mpr ⟨h, by omega, by omega, Or.inr (by omega)⟩, by rw [show ((p : Int) + 1 - 1074 + 1074).toNat = p + 1 by omega]⟩
theorem gRep_p : ∀ (p c : Nat), c < 16777216 → p ≤ 253 → gRep (c * 2 ^ p)
  | 0, c, h, _ => ⟨c, -149, fun s => gitsI.mpr ⟨h, by omega, by omega, Or.inl rfl⟩, by simp⟩
  | p + 1, c, h, hp => by
    by_cases h2 : c < 8388608
    · have := gRep_p p (2 * c) (by omega) (by omega)
      rw [show c * 2 ^ (p + 1) = 2 * c * 2 ^ p by rw [Nat.pow_succ]; ac_rfl]; exact this
    · exact ⟨c, (p : Int) + 1 - 149, fun s => gitsI.mpr ⟨h, by omega, by omega, Or.inr (by omega)⟩, by rw [show ((p : Int) + 1 - 149 + 149).toNat = p + 1 by omega]⟩
theorem fN_v {s : Bool} {n : Nat} {x : UInt64} (h : fN s n x) : ∃ c q, FP.Core.fits FP.Core.b64 (.fin s c q) ∧ v64 x = .fin s c q ∧ c * 2 ^ (q + 1074).toNat = n := by
  obtain ⟨c, q, h1, h2, h3⟩ := h
  refine ⟨c, q, h1, ?_, h3⟩
  show FP.Core.decode FP.Core.b64 x.toNat = _
  rw [h2]; exact (dec_fB h1).1
theorem gN_v {s : Bool} {n : Nat} {x : UInt32} (h : gN s n x) : ∃ c q, FP.Core.fits FP.Core.b32 (.fin s c q) ∧ v32 x = .fin s c q ∧ c * 2 ^ (q + 149).toNat = n := by
  obtain ⟨c, q, h1, h2, h3⟩ := h
  refine ⟨c, q, h1, ?_, h3⟩
  show FP.Core.decode FP.Core.b32 x.toNat = _
  rw [h2]; exact (dec_gB h1).1
theorem fN_rep {s : Bool} {n : Nat} {x : UInt64} (h : fN s n x) : fRep n := by
  obtain ⟨c, q, h1, h2, h3⟩ := h
  exact ⟨c, q, fun s' => h1, h3⟩
theorem fN_vf {s : Bool} {n : Nat} {x : UInt64} (h : fN s n x) : vf_n64 x := by
  obtain ⟨c, q, h1, h2, h3⟩ := h
  unfold vf_n64
  rw [UInt64.le_iff_toNat_le, UInt64.toNat_and, show (0x7fffffffffffffff : UInt64).toNat = 2 ^ 63 - 1 from by decide, Nat.and_two_pow_sub_one_eq_mod, h2]
  rw [fitsI] at h1
  show fB s c q % 9223372036854775808 ≤ 9218868437227405312
  unfold fB
  cases s <;> simp only [if_true, Bool.false_eq_true, if_false] <;> split <;> omega
theorem fits_u {s : Bool} {c c' : Nat} {q q' : Int} (h : FP.Core.fits FP.Core.b64 (.fin s c q)) (h' : FP.Core.fits FP.Core.b64 (.fin s c' q')) (he : c * 2 ^ (q + 1074).toNat = c' * 2 ^ (q' + 1074).toNat) : c = c' ∧ q = q' := by
  have key : ∀ {c c' : Nat} {q q' : Int}, FP.Core.fits FP.Core.b64 (.fin s c q) → FP.Core.fits FP.Core.b64 (.fin s c' q') → c * 2 ^ (q + 1074).toNat = c' * 2 ^ (q' + 1074).toNat → ¬ q < q' := by
    intro c c' q q' h h' he hl
    rw [fitsI] at h h'
    have := pow_cancel he (k := (q + 1074).toNat) (Nat.le_refl _) (by omega)
    rw [Nat.sub_self, Nat.pow_zero, Nat.mul_one, show (q' + 1074).toNat - (q + 1074).toNat = ((q' - q).toNat - 1) + 1 by omega, Nat.pow_succ] at this
    have h3 : 1 ≤ 2 ^ ((q' - q).toNat - 1) := Nat.two_pow_pos _
    have h4 : c' * 1 ≤ c' * 2 ^ ((q' - q).toNat - 1) := Nat.mul_le_mul_left _ h3
    rw [← Nat.mul_assoc] at this
    omega
  have hq : q = q' := by have := key h h' he; have := key h' h he.symm; omega
  subst hq
  exact ⟨Nat.eq_of_mul_eq_mul_right (Nat.two_pow_pos _) he, rfl⟩
theorem fN_u {s : Bool} {n : Nat} {x y : UInt64} (hx : fN s n x) (hy : fN s n y) : x = y := by
  obtain ⟨c, q, h1, h2, h3⟩ := hx
  obtain ⟨c', q', h4, h5, h6⟩ := hy
  obtain ⟨rfl, rfl⟩ := fits_u h1 h4 (h3.trans h6.symm)
  exact UInt64.toNat_inj.mp (h2.trans h5.symm)
/-- what comes of a number that the format has -/
theorem fN_of {s : Bool} {A n : Nat} {e K : Int} (hR : fRep n) (he : 0 ≤ e + K) (hK : 1074 ≤ K) (h : A * 2 ^ (e + K).toNat = n * 2 ^ (K - 1074).toNat) : fN s n (UInt64.ofNat (FP.Core.encode FP.Core.b64 (FP.Core.roundRatio FP.Core.b64 s A 1 e))) := by
  obtain ⟨c, q, h1, h2⟩ := hR
  have hf := fitsI.mp (h1 s)
  rw [rnd_ex (K := K) (by decide) (h1 s) he (by omega) (by rw [h, ← h2, Nat.mul_assoc, ← Nat.pow_add]; congr 2; omega), enc64]
  exact ⟨c, q, h1 s, by rw [UInt64.toNat_ofNat_of_lt' (dec_fB (h1 s)).2], h2⟩
theorem gN_of {s : Bool} {A n : Nat} {e K : Int} (hR : gRep n) (he : 0 ≤ e + K) (hK : 149 ≤ K) (h : A * 2 ^ (e + K).toNat = n * 2 ^ (K - 149).toNat) : gN s n (UInt32.ofNat (FP.Core.encode FP.Core.b32 (FP.Core.roundRatio FP.Core.b32 s A 1 e))) := by
  obtain ⟨c, q, h1, h2⟩ := hR
  have hf := gitsI.mp (h1 s)
  rw [rnd_ex (K := K) (by decide) (h1 s) he (by omega) (by rw [h, ← h2, Nat.mul_assoc, ← Nat.pow_add]; congr 2; omega), enc32]
  exact ⟨c, q, h1 s, by rw [UInt32.toNat_ofNat_of_lt' (dec_gB (h1 s)).2], h2⟩
/-- a number times a power of two -/
theorem fN_mul {s : Bool} {n n' : Nat} {x y : UInt64} {r : Int} (hx : fN s n x) (hy : v64 y = .fin false 4503599627370496 r) (hr : -100 ≤ r) (hR : fRep n') (h : n * 2 ^ (r + 252).toNat = n' * 2 ^ 200) : fN s n' (FP.dmul x y) := by
  obtain ⟨c, q, h1, h2, h3⟩ := fN_v hx
  rw [fitsI] at h1
  have e0 : FP.dmul x y = UInt64.ofNat (FP.Core.encode FP.Core.b64 (FP.Core.roundRatio FP.Core.b64 s (c * 4503599627370496) 1 (q + r))) := by
    show UInt64.ofNat (FP.Core.encode FP.Core.b64 (FP.Core.round FP.Core.b64 (FP.Core.exactProduct (v64 x) (v64 y)))) = _
    rw [h2, hy]
    show UInt64.ofNat (FP.Core.encode FP.Core.b64 (FP.Core.roundRatio FP.Core.b64 (s != false) (c * 4503599627370496) 1 (q + r))) = _
    rw [show (s != false) = s from by cases s <;> rfl]
  rw [e0]
  refine fN_of (K := 5000) hR (by omega) (by omega) ?_
  rw [show (4503599627370496 : Nat) = 2 ^ 52 from by decide]
  have e1 : c * 2 ^ 52 * 2 ^ (q + r + 5000).toNat = c * 2 ^ (q + 1074).toNat * 2 ^ (r + 252).toNat * 2 ^ 3726 := by
    rw [Nat.mul_assoc, ← Nat.pow_add, Nat.mul_assoc, Nat.mul_assoc, ← Nat.pow_add, ← Nat.pow_add]
    congr 2; omega
  rw [e1, h3, h, Nat.mul_assoc, ← Nat.pow_add, show ((5000 : Int) - 1074).toNat = 200 + 3726 from by decide]
theorem fN_two {s : Bool} {n : Nat} {x : UInt64} (hx : fN s n x) (hR : fRep (n * 2)) : fN s (n * 2) (FP.dmul x 0x4000000000000000) :=
  fN_mul (r := -51) hx (by decide +kernel) (by omega) hR (by rw [show ((-51 : Int) + 252).toNat = 1 + 200 by decide, Nat.pow_add]; ac_rfl)
theorem fRep_half {n : Nat} (h : fRep (n * 2)) : fRep n := by
  obtain ⟨c, q, h1, h2⟩ := h
  have hf := fitsI.mp (h1 false)
  by_cases hq : q = -1074
  · subst hq
    rw [show ((-1074 : Int) + 1074).toNat = 0 by decide, Nat.pow_zero, Nat.mul_one] at h2
    have := fRep_p 0 n (by omega) (by omega)
    simpa using this
  · have := fRep_p ((q + 1074).toNat - 1) c (by omega) (by omega)
    rw [show (q + 1074).toNat = ((q + 1074).toNat - 1) + 1 by omega, Nat.pow_succ, ← Nat.mul_assoc] at h2
    rw [← Nat.eq_of_mul_eq_mul_right (by decide) h2]; exact this
theorem fN_half {s : Bool} {n : Nat} {x : UInt64} (hx : fN s (n * 2) x) : fN s n (FP.dmul x 0x3fe0000000000000) :=
  fN_mul (r := -53) hx (by decide +kernel) (by omega) (fRep_half (fN_rep hx)) (by rw [show ((-53 : Int) + 252).toNat = 199 by decide, show (200 : Nat) = 1 + 199 from rfl, Nat.pow_add, Nat.pow_one]; ac_rfl)

/-! ===== numbers with points: bits ===== -/
def U64 (b : Int) : UInt64 := (lI b).toUInt64
def U32 (b : Int) : UInt32 := (iI b).toUInt32
theorem U64_nat (b : Int) : ((U64 b).toNat : Int) = b % 18446744073709551616 := by
  show ((BitVec.ofInt 64 b).toNat : Int) = _
  rw [BitVec.toNat_ofInt]
  have := Int.emod_nonneg b (show (18446744073709551616 : Int) ≠ 0 by decide)
  show ((b % 18446744073709551616).toNat : Int) = _
  omega
theorem U32_nat (b : Int) : ((U32 b).toNat : Int) = b % 4294967296 := by
  show ((BitVec.ofInt 32 b).toNat : Int) = _
  rw [BitVec.toNat_ofInt]
  have := Int.emod_nonneg b (show (4294967296 : Int) ≠ 0 by decide)
  show ((b % 4294967296).toNat : Int) = _
  omega
theorem lI_bv (b : Int) : ((lI b).toBitVec.toNat : Int) = b % 18446744073709551616 := U64_nat b
theorem toInt_small {x : Int64} (h : x.toBitVec.toNat < 9223372036854775808) : x.toInt = (x.toBitVec.toNat : Int) := by
  show x.toBitVec.toInt = _
  rw [BitVec.toInt_eq_toNat_of_lt (by omega)]
theorem zlandd_nat (b c : Int) : (lI b &&& lI c).toBitVec.toNat = (lI b).toBitVec.toNat &&& (lI c).toBitVec.toNat := by
  rw [Int64.toBitVec_and, BitVec.toNat_and]
theorem zlandd_mask {b K : Int} (k : Nat) (hk : k ≤ 63) (hK : K = ((2 ^ k - 1 : Nat) : Int)) : zlandd b K = b % ((2 ^ k : Nat) : Int) := by
  have hp : 2 ^ k ≤ 2 ^ 63 := Nat.pow_le_pow_right (by decide) hk
  have h0 := Nat.two_pow_pos k
  have e1 : (lI K).toBitVec.toNat = 2 ^ k - 1 := by have := lI_bv K; omega
  have e2 : (lI b &&& lI K).toBitVec.toNat = (lI b).toBitVec.toNat % 2 ^ k := by rw [zlandd_nat, e1, Nat.and_two_pow_sub_one_eq_mod]
  have h1 : (lI b).toBitVec.toNat % 2 ^ k < 2 ^ k := Nat.mod_lt _ h0
  show (lI b &&& lI K).toInt = _
  rw [toInt_small (by omega), e2]
  have h2 := lI_bv b
  have hd : ((2 ^ k : Nat) : Int) ∣ 18446744073709551616 := by
    refine ⟨((2 ^ (64 - k) : Nat) : Int), ?_⟩
    rw [← Int.natCast_mul, ← Nat.pow_add, show k + (64 - k) = 64 by omega]; rfl
  rw [Int.natCast_emod, h2, Int.emod_emod_of_dvd _ hd]
theorem zlandd_bit31 {b : Int} (hb : inR b) : zlandd b 2147483648 = if b < 0 then 2147483648 else 0 := by
  obtain ⟨h1, h2⟩ := hb
  have e1 : (lI 2147483648).toBitVec.toNat = 2 ^ 31 := by decide
  have e2 := lI_bv b
  have e3 : (lI b &&& lI 2147483648).toBitVec.toNat = if b < 0 then 2147483648 else 0 := by
    rw [zlandd_nat, e1]
    generalize (lI b).toBitVec.toNat = n at e2
    have a1 : (n &&& 2 ^ 31) % 2 ^ 31 = 0 := by rw [Nat.and_mod_two_pow]; simp
    have a2 : (n &&& 2 ^ 31) / 2 ^ 31 = n / 2 ^ 31 % 2 := by rw [Nat.and_div_two_pow, show 2 ^ 31 / 2 ^ 31 = 1 from rfl, Nat.and_one_is_mod]
    split <;> omega
  show (lI b &&& lI 2147483648).toInt = _
  rw [toInt_small (by rw [e3]; split <;> omega), e3]
  split <;> rfl
theorem iI_and63 {k : Nat} (hk : k < 64) : (iI k).toInt64 &&& 63 = lI k := by
  have h : ∀ j : Fin 64, (iI (j : Nat)).toInt64 &&& 63 = lI (j : Nat) := by decide
  exact h ⟨k, hk⟩
theorem lI_shr {b : Int} (k : Nat) (hk : k < 64) (hb : inL b) : lI b >>> ((iI k).toInt64 &&& 63) = lI (b / ((2 ^ k : Nat) : Int)) := by
  have e : ((lI k).toBitVec.smod 64).toNat = k := by
    have h : ∀ j : Fin 64, ((lI ((j : Nat) : Int)).toBitVec.smod 64).toNat = j := by decide
    exact h ⟨k, hk⟩
  have hd : inL (b / ((2 ^ k : Nat) : Int)) := by
    obtain ⟨h1, h2⟩ := hb
    have hp := Nat.two_pow_pos k
    have h3 : (0 : Int) < ((2 ^ k : Nat) : Int) := by omega
    constructor
    · by_cases h : 0 ≤ b
      · have := Int.ediv_nonneg h (Int.le_of_lt h3); omega
      · have := Int.ediv_le_ediv (a := -9223372036854775808) (b := b) h3 h1
        have h4 : (-9223372036854775808 : Int) ≤ -9223372036854775808 / ((2 ^ k : Nat) : Int) := by
          rw [Int.le_ediv_iff_mul_le h3]; omega
        omega
    · by_cases h : 0 ≤ b
      · have := Int.ediv_le_self ((2 ^ k : Nat) : Int) h; omega
      · have := Int.ediv_neg_of_neg_of_pos (show b < 0 by omega) h3; omega
  rw [iI_and63 hk]
  apply Int64.toInt_inj.mp
  rw [lI_toInt hd]
  show ((lI b).toBitVec.sshiftRight' ((lI k).toBitVec.smod 64)).toInt = _
  rw [BitVec.sshiftRight_eq', e, BitVec.toInt_sshiftRight]
  show (lI b).toInt >>> k = _
  rw [lI_toInt hb, Int.shiftRight_eq_div_pow]
theorem lI_shl (b : Int) (k : Nat) (hk : k < 64) : lI b <<< ((iI k).toInt64 &&& 63) = lI (b * ((2 ^ k : Nat) : Int)) := by
  have e : ((lI k).toBitVec.smod 64).toNat = k := by
    have h : ∀ j : Fin 64, ((lI ((j : Nat) : Int)).toBitVec.smod 64).toNat = j := by decide
    exact h ⟨k, hk⟩
  rw [iI_and63 hk]
  apply Int64.toBitVec_inj.mp
  show (lI b).toBitVec <<< ((lI k).toBitVec.smod 64) = BitVec.ofInt 64 (b * ((2 ^ k : Nat) : Int))
  apply BitVec.eq_of_toNat_eq
  rw [BitVec.shiftLeft_eq', e, BitVec.toNat_shiftLeft, Nat.shiftLeft_eq]
  have h1 := lI_bv b
  have h2 := lI_bv (b * ((2 ^ k : Nat) : Int))
  have h3 : ((BitVec.ofInt 64 (b * ((2 ^ k : Nat) : Int))).toNat : Int) = b * ((2 ^ k : Nat) : Int) % 18446744073709551616 := h2
  have h4 : (((lI b).toBitVec.toNat * 2 ^ k % 2 ^ 64 : Nat) : Int) = b * ((2 ^ k : Nat) : Int) % 18446744073709551616 := by
    rw [Int.natCast_emod, Int.natCast_mul, h1, show ((2 ^ 64 : Nat) : Int) = 18446744073709551616 from rfl, Int.mul_emod, Int.emod_emod, ← Int.mul_emod]
  omega
theorem zlorr_low {X Y : Int} (k : Nat) (hk : k ≤ 63) (hX : 0 ≤ X) (hY : 0 ≤ Y ∧ Y < ((2 ^ k : Nat) : Int)) (h : X * ((2 ^ k : Nat) : Int) + Y < 9223372036854775808) : zlorr (X * ((2 ^ k : Nat) : Int)) Y = X * ((2 ^ k : Nat) : Int) + Y := by
  obtain ⟨x, rfl⟩ := Int.eq_ofNat_of_zero_le hX
  obtain ⟨y, rfl⟩ := Int.eq_ofNat_of_zero_le hY.1
  have hy : y < 2 ^ k := by have := hY.2; omega
  have e1 := lI_bv ((x : Int) * ((2 ^ k : Nat) : Int))
  have e2 := lI_bv (y : Int)
  rw [← Int.natCast_mul] at *
  have e3 : (lI ((x * 2 ^ k : Nat) : Int)).toBitVec.toNat = x * 2 ^ k := by omega
  have e4 : (lI (y : Int)).toBitVec.toNat = y := by omega
  have e5 : (lI ((x * 2 ^ k : Nat) : Int) ||| lI (y : Int)).toBitVec.toNat = x * 2 ^ k + y := by
    rw [Int64.toBitVec_or, BitVec.toNat_or, e3, e4, Nat.mul_comm, Nat.two_pow_add_eq_or_of_lt hy]
  show (lI ((x * 2 ^ k : Nat) : Int) ||| lI (y : Int)).toInt = _
  rw [toInt_small (by omega), e5]; omega
theorem zlorr_sign {b : Int} (hb : 0 ≤ b ∧ b < 9223372036854775808) : zlorr b (-9223372036854775808) = b - 9223372036854775808 := by
  obtain ⟨y, rfl⟩ := Int.eq_ofNat_of_zero_le hb.1
  have hy : y < 2 ^ 63 := by omega
  have e2 := lI_bv (y : Int)
  have e4 : (lI (y : Int)).toBitVec.toNat = y := by omega
  have e3 : (lI (-9223372036854775808)).toBitVec.toNat = 2 ^ 63 * 1 := by decide
  have e5 : (lI (y : Int) ||| lI (-9223372036854775808)).toBitVec.toNat = 2 ^ 63 + y := by
    rw [Int64.toBitVec_or, BitVec.toNat_or, e3, e4, Nat.or_comm, ← Nat.two_pow_add_eq_or_of_lt hy]
  show (lI (y : Int) ||| lI (-9223372036854775808)).toInt = _
  show (lI (y : Int) ||| lI (-9223372036854775808)).toBitVec.toInt = _
  rw [BitVec.toInt_eq_toNat_cond, e5, if_neg (by omega)]
  omega
theorem zlorr_0 {b : Int} (hb : inL b) : zlorr b 0 = b := by
  show (lI b ||| lI 0).toInt = b
  rw [show (lI 0) = 0 from rfl, Int64.or_zero, lI_toInt hb]
theorem zlorr_31 {b : Int} (hb : 0 ≤ b ∧ b < 2147483648) : zlorr b 2147483648 = b + 2147483648 := by
  obtain ⟨y, rfl⟩ := Int.eq_ofNat_of_zero_le hb.1
  have hy : y < 2 ^ 31 := by omega
  have e2 := lI_bv (y : Int)
  have e4 : (lI (y : Int)).toBitVec.toNat = y := by omega
  have e3 : (lI 2147483648).toBitVec.toNat = 2 ^ 31 * 1 := by decide
  have e5 : (lI (y : Int) ||| lI 2147483648).toBitVec.toNat = 2 ^ 31 + y := by
    rw [Int64.toBitVec_or, BitVec.toNat_or, e3, e4, Nat.or_comm, ← Nat.two_pow_add_eq_or_of_lt hy]
  show (lI (y : Int) ||| lI 2147483648).toInt = _
  rw [toInt_small (by omega), e5]; omega
/-- the bits of a number -/
def fX (s : Bool) (n : Nat) : UInt64 := UInt64.ofNat (fB s (n / 2 ^ (n.log2 - 52)) (((n.log2 - 52 : Nat) : Int) - 1074))
def gX (s : Bool) (n : Nat) : UInt32 := UInt32.ofNat (gB s (n / 2 ^ (n.log2 - 23)) (((n.log2 - 23 : Nat) : Int) - 149))
theorem fX_at {s : Bool} {c : Nat} {q : Int} (h : FP.Core.fits FP.Core.b64 (.fin s c q)) : fX s (c * 2 ^ (q + 1074).toNat) = UInt64.ofNat (fB s c q) := by
  rw [fitsI] at h
  unfold fX
  by_cases hc : c = 0
  · subst hc
    have hq : q = -1074 := by omega
    subst hq
    simp
  · rw [lgp_mul hc]
    have l1 : c.log2 < 53 := (Nat.log2_lt hc).mpr (by omega)
    by_cases hq : q = -1074
    · subst hq
      rw [show ((-1074 : Int) + 1074).toNat = 0 by decide, show c.log2 + 0 - 52 = 0 by omega]
      simp
    · have l2 : 52 ≤ c.log2 := (Nat.le_log2 hc).mpr (by omega)
      rw [show c.log2 + (q + 1074).toNat - 52 = (q + 1074).toNat by omega, Nat.mul_div_cancel _ (Nat.two_pow_pos _), show (((q + 1074).toNat : Nat) : Int) - 1074 = q by omega]
theorem gX_at {s : Bool} {c : Nat} {q : Int} (h : FP.Core.fits FP.Core.b32 (.fin s c q)) : gX s (c * 2 ^ (q + 149).toNat) = UInt32.ofNat (gB s c q) := by
  rw [gitsI] at h
  unfold gX
  by_cases hc : c = 0
  · subst hc
    have hq : q = -149 := by omega
    subst hq
    simp
  · rw [lgp_mul hc]
    have l1 : c.log2 < 24 := (Nat.log2_lt hc).mpr (by omega)
    by_cases hq : q = -149
    · subst hq
      rw [show ((-149 : Int) + 149).toNat = 0 by decide, show c.log2 + 0 - 23 = 0 by omega]
      simp
    · have l2 : 23 ≤ c.log2 := (Nat.le_log2 hc).mpr (by omega)
      rw [show c.log2 + (q + 149).toNat - 23 = (q + 149).toNat by omega, Nat.mul_div_cancel _ (Nat.two_pow_pos _), show (((q + 149).toNat : Nat) : Int) - 149 = q by omega]
theorem fX_N {s : Bool} {n : Nat} (h : fRep n) : fN s n (fX s n) := by
  obtain ⟨c, q, h1, h2⟩ := h
  refine ⟨c, q, h1 s, ?_, h2⟩
  rw [← h2, fX_at (h1 s), UInt64.toNat_ofNat_of_lt' (dec_fB (h1 s)).2]
theorem gX_N {s : Bool} {n : Nat} (h : gRep n) : gN s n (gX s n) := by
  obtain ⟨c, q, h1, h2⟩ := h
  refine ⟨c, q, h1 s, ?_, h2⟩
  rw [← h2, gX_at (h1 s), UInt32.toNat_ofNat_of_lt' (dec_gB (h1 s)).2]
theorem fN_X {s : Bool} {n : Nat} {x : UInt64} (h : fN s n x) : x = fX s n := fN_u h (fX_N (fN_rep h))
theorem gN_X {s : Bool} {n : Nat} {x : UInt32} (h : gN s n x) : x = gX s n := by
  obtain ⟨c, q, h1, h2, h3⟩ := h
  rw [← h3, gX_at h1]
  exact UInt32.toNat_inj.mp (by rw [h2, UInt32.toNat_ofNat_of_lt' (dec_gB h1).2])
theorem fX_vf {s : Bool} {n : Nat} (h : fRep n) : vf_n64 (fX s n) := fN_vf (fX_N h)
theorem fX_two {s : Bool} {n : Nat} (h : fRep n) (h2 : fRep (n * 2)) : FP.dmul (fX s n) 0x4000000000000000 = fX s (n * 2) := fN_X (fN_two (fX_N h) h2)
theorem fX_half {s : Bool} {n : Nat} (h : fRep (n * 2)) : FP.dmul (fX s (n * 2)) 0x3fe0000000000000 = fX s n := fN_X (fN_half (fX_N h))
/-- a whole number made one with a point -/
theorem fX_l2d {m : Int} (h : 0 ≤ m ∧ m < 9007199254740992) : FP.l2d (lI m) = fX false (m.toNat * 2 ^ 1074) := by
  refine fN_X ?_
  show fN false (m.toNat * 2 ^ 1074) (UInt64.ofNat (FP.Core.encode FP.Core.b64 (FP.Core.round FP.Core.b64 (FP.Core.ofInt (lI m).toInt))))
  rw [lI_toInt ⟨by omega, by omega⟩]
  show fN false (m.toNat * 2 ^ 1074) (UInt64.ofNat (FP.Core.encode FP.Core.b64 (FP.Core.roundRatio FP.Core.b64 (decide (m < 0)) m.natAbs 1 0)))
  rw [show decide (m < 0) = false from by simp; omega, show m.natAbs = m.toNat by omega]
  refine fN_of (K := 1074) (fRep_p 1074 _ (by omega) (by omega)) (by omega) (by omega) ?_
  simp
theorem fX_i2d {m : Int} (h : 0 ≤ m ∧ m < 2147483648) : FP.i2d (iI m) = fX false (m.toNat * 2 ^ 1074) := by
  rw [← fX_l2d ⟨h.1, by omega⟩]
  show UInt64.ofNat (FP.Core.fromInt FP.Core.b64 (iI m).toInt) = UInt64.ofNat (FP.Core.fromInt FP.Core.b64 (lI m).toInt)
  rw [iI_toInt ⟨by omega, by omega⟩, lI_toInt ⟨by omega, by omega⟩]

/-! ===== numbers with points: order, endless ones, other widths ===== -/
theorem xor63 {a : Nat} (h : a < 2 ^ 64) : a ^^^ 9223372036854775808 = if a < 9223372036854775808 then a + 9223372036854775808 else a - 9223372036854775808 := by
  have a1 : (a ^^^ 2 ^ 63) % 2 ^ 63 = a % 2 ^ 63 := by rw [Nat.xor_mod_two_pow]; simp
  have a2 : (a ^^^ 2 ^ 63) / 2 ^ 63 = a / 2 ^ 63 ^^^ 1 := by rw [Nat.xor_div_two_pow, show 2 ^ 63 / 2 ^ 63 = 1 from rfl]
  have h3 : a / 2 ^ 63 = 0 ∨ a / 2 ^ 63 = 1 := by omega
  have a3 : a ^^^ 9223372036854775808 = a ^^^ 2 ^ 63 := rfl
  rw [a3]
  generalize a ^^^ 2 ^ 63 = b at a1 a2
  rcases h3 with h3 | h3
  · rw [h3, show 0 ^^^ 1 = 1 from rfl] at a2; rw [if_pos (by omega)]; omega
  · rw [h3, show 1 ^^^ 1 = 0 from rfl] at a2; rw [if_neg (by omega)]; omega
def infB (s : Bool) : UInt64 := if s then 0xfff0000000000000 else 0x7ff0000000000000
def infG (s : Bool) : UInt32 := if s then 0xff800000 else 0x7f800000
def fTop : Nat := 2 ^ 2098
def fZ (s : Bool) (n : Nat) : UInt64 := if n = fTop then infB s else fX s n
def fR (n : Nat) : Prop := n = fTop ∨ fRep n
theorem fRep_lt {n : Nat} (h : fRep n) : n < fTop := by
  obtain ⟨c, q, h1, h2⟩ := h
  have hf := fitsI.mp (h1 false)
  rw [← h2]
  have e1 : c * 2 ^ (q + 1074).toNat < 2 ^ 53 * 2 ^ (q + 1074).toNat := Nat.mul_lt_mul_of_pos_right (by omega) (Nat.two_pow_pos _)
  have e2 : 2 ^ 53 * 2 ^ (q + 1074).toNat ≤ 2 ^ 53 * 2 ^ 2045 := Nat.mul_le_mul_left _ (Nat.pow_le_pow_right (by decide) (by omega))
  have e3 : 2 ^ 53 * 2 ^ 2045 = fTop := by unfold fTop; rw [← Nat.pow_add]
  omega
theorem fZ_X {s : Bool} {n : Nat} (h : fRep n) : fZ s n = fX s n := by
  unfold fZ; rw [if_neg]; have := fRep_lt h; omega
theorem fX_neg {s : Bool} {n : Nat} (h : fRep n) : FP.dneg (fX s n) = fX (!s) n := by
  obtain ⟨c, q, h1, h2⟩ := h
  rw [← h2, fX_at (h1 s), fX_at (h1 (!s))]
  apply UInt64.toNat_inj.mp
  have l1 := (dec_fB (h1 s)).2
  have l2 := (dec_fB (h1 (!s))).2
  show (UInt64.ofNat (fB s c q) ^^^ 0x8000000000000000).toNat = _
  rw [UInt64.toNat_xor, UInt64.toNat_ofNat_of_lt' l1, UInt64.toNat_ofNat_of_lt' l2, show (0x8000000000000000 : UInt64).toNat = 9223372036854775808 from by decide, xor63 l1]
  have hf := fitsI.mp (h1 false)
  have hM' : (if c < 4503599627370496 then c else ((q + 1074).toNat + 1) * 4503599627370496 + (c - 4503599627370496)) < 9223372036854775808 := by split <;> omega
  unfold fB
  generalize (if c < 4503599627370496 then c else ((q + 1074).toNat + 1) * 4503599627370496 + (c - 4503599627370496)) = M at hM'
  cases s
  · simp only [Bool.not_false, if_true, Bool.false_eq_true, if_false, Nat.zero_add]; rw [if_pos hM']; omega
  · simp only [Bool.not_true, if_true, Bool.false_eq_true, if_false, Nat.zero_add]; rw [if_neg (by omega)]; omega
theorem infB_neg (s : Bool) : FP.dneg (infB s) = infB (!s) := by cases s <;> decide +kernel
theorem fZ_neg {s : Bool} {n : Nat} (h : fR n) : FP.dneg (fZ s n) = fZ (!s) n := by
  rcases h with h | h
  · unfold fZ; rw [if_pos h, if_pos h, infB_neg]
  · rw [fZ_X h, fZ_X h, fX_neg h]
theorem v64_inf (s : Bool) : v64 (infB s) = .inf s := by cases s <;> decide +kernel
def sg (s : Bool) (n : Nat) : Int := if s then -(n : Int) else n
theorem cmpI {a b a' b' : Int} (h1 : a < b ↔ a' < b') (h2 : a = b ↔ a' = b') : compare a b = compare a' b' := by
  simp only [compare, compareOfLessAndEq, h1, h2]
theorem sg_mul (s : Bool) (a k : Nat) : sg s (a * k) = sg s a * (k : Int) := by
  cases s <;> simp [sg, Int.neg_mul]
theorem fcmp {s t : Bool} {n m : Nat} (hn : fR n) (hm : fR m) : FP.dcmp (fZ s n) (fZ t m) = some (compare (sg s n) (sg t m)) := by
  have top : ∀ {k : Nat}, fRep k → (k : Int) < (fTop : Int) := fun h => Int.ofNat_lt.mpr (fRep_lt h)
  have tp : (0 : Int) < (fTop : Int) := Int.ofNat_lt.mpr (Nat.two_pow_pos _)
  show FP.Core.order (v64 (fZ s n)) (v64 (fZ t m)) = _
  rcases hn with hn | hn <;> rcases hm with hm | hm
  · unfold fZ
    rw [if_pos hn, if_pos hm, v64_inf, v64_inf, hn, hm]
    show some (compare (FP.Core.signed s 1) (FP.Core.signed t 1)) = _
    refine congrArg some ?_
    generalize (fTop : Nat) = T at tp
    cases s <;> cases t <;> (refine cmpI ?_ ?_) <;> simp [FP.Core.signed, sg] <;> omega
  · obtain ⟨c, q, h1, h2, h3⟩ := fN_v (fX_N (s := t) hm)
    rw [fZ_X hm, h2]
    unfold fZ
    rw [if_pos hn, v64_inf, hn]
    show some (compare (FP.Core.signed s 1) 0) = _
    refine congrArg some ?_
    have := top hm
    generalize (fTop : Nat) = T at tp this
    cases s <;> cases t <;> (refine cmpI ?_ ?_) <;> simp [FP.Core.signed, sg] <;> omega
  · obtain ⟨c, q, h1, h2, h3⟩ := fN_v (fX_N (s := s) hn)
    rw [fZ_X hn, h2]
    unfold fZ
    rw [if_pos hm, v64_inf, hm]
    show some (compare 0 (FP.Core.signed t 1)) = _
    refine congrArg some ?_
    have := top hn
    generalize (fTop : Nat) = T at tp this
    cases s <;> cases t <;> (refine cmpI ?_ ?_) <;> simp [FP.Core.signed, sg] <;> omega
  · obtain ⟨c, q, h1, h2, h3⟩ := fN_v (fX_N (s := s) hn)
    obtain ⟨d, r, h4, h5, h6⟩ := fN_v (fX_N (s := t) hm)
    rw [fZ_X hn, fZ_X hm, h2, h5]
    rw [fitsI] at h1 h4
    show some (compare (sg s (c * 2 ^ (q - min q r).toNat)) (sg t (d * 2 ^ (r - min q r).toNat))) = _
    refine congrArg some ?_
    have e1 : sg s n = sg s (c * 2 ^ (q - min q r).toNat) * ((2 ^ (min q r + 1074).toNat : Nat) : Int) := by
      rw [← sg_mul, ← h3, Nat.mul_assoc, ← Nat.pow_add]; congr 3; omega
    have e2 : sg t m = sg t (d * 2 ^ (r - min q r).toNat) * ((2 ^ (min q r + 1074).toNat : Nat) : Int) := by
      rw [← sg_mul, ← h6, Nat.mul_assoc, ← Nat.pow_add]; congr 3; omega
    have hk : (0 : Int) < ((2 ^ (min q r + 1074).toNat : Nat) : Int) := Int.ofNat_lt.mpr (Nat.two_pow_pos _)
    rw [e1, e2]
    refine cmpI ⟨fun h => Int.mul_lt_mul_of_pos_right h hk, fun h => Int.lt_of_mul_lt_mul_right h (Int.le_of_lt hk)⟩ ⟨fun h => by rw [h], fun h => Int.eq_of_mul_eq_mul_right (by omega) h⟩
theorem fRep_0 : fRep 0 := by have := fRep_p 0 0 (by decide) (by decide); simpa using this
theorem fZ_0 : (0 : UInt64) = fZ false 0 := by rw [fZ_X fRep_0]; decide +kernel
theorem fZ_vf {s : Bool} {n : Nat} (h : fR n) : vf_n64 (fZ s n) := by
  rcases h with h | h
  · unfold fZ; rw [if_pos h]; cases s <;> (unfold vf_n64 infB; decide)
  · rw [fZ_X h]; exact fX_vf h
theorem vf_nat {x : UInt64} : vf_n64 x ↔ x.toNat % 9223372036854775808 ≤ 9218868437227405312 := by
  unfold vf_n64
  rw [UInt64.le_iff_toNat_le, UInt64.toNat_and, show (0x7fffffffffffffff : UInt64).toNat = 2 ^ 63 - 1 from by decide, Nat.and_two_pow_sub_one_eq_mod]
  rfl
theorem vg_nat {x : UInt32} : vf_n32 x ↔ x.toNat % 2147483648 ≤ 2139095040 := by
  unfold vf_n32
  rw [UInt32.le_iff_toNat_le, UInt32.toNat_and, show (0x7fffffff : UInt32).toNat = 2 ^ 31 - 1 from by decide, Nat.and_two_pow_sub_one_eq_mod]
  rfl
theorem fZ_of {x : UInt64} (h : vf_n64 x) : ∃ s n, fR n ∧ x = fZ s n := by
  rw [vf_nat] at h
  by_cases h1 : x.toNat % 9223372036854775808 = 9218868437227405312
  · refine ⟨decide (9223372036854775808 ≤ x.toNat), fTop, Or.inl rfl, ?_⟩
    unfold fZ infB
    rw [if_pos rfl]
    have := x.toNat_lt
    by_cases hs : 9223372036854775808 ≤ x.toNat
    · simp only [hs, decide_true, if_true]
      exact UInt64.toNat_inj.mp (by rw [show (0xfff0000000000000 : UInt64).toNat = 18442240474082181120 from by decide]; omega)
    · simp only [hs, decide_false, Bool.false_eq_true, if_false]
      exact UInt64.toNat_inj.mp (by rw [show (0x7ff0000000000000 : UInt64).toNat = 9218868437227405312 from by decide]; omega)
  · obtain ⟨s, c, q, h2, h3⟩ := dec_in64 (x := x) (by omega)
    have hN : fN s (c * 2 ^ (q + 1074).toNat) x := ⟨c, q, h2, h3, rfl⟩
    exact ⟨s, _, Or.inr (fN_rep hN), by rw [fZ_X (fN_rep hN)]; exact fN_X hN⟩
theorem fX_d2l {A : Nat} (h : A < 9007199254740992) : FP.d2l (fX false (A * 2 ^ 1074)) = lI A := by
  obtain ⟨c, q, h1, h2, h3⟩ := fN_v (fX_N (s := false) (fRep_p 1074 A h (by omega)))
  rw [fitsI] at h1
  show Int64.ofInt (FP.Core.toInt (-2 ^ 63) (2 ^ 63 - 1) (v64 (fX false (A * 2 ^ 1074)))) = _
  rw [h2]
  show Int64.ofInt (max (-2 ^ 63) (min (2 ^ 63 - 1) (((c * 2 ^ q.toNat / 2 ^ (-q).toNat : Nat) : Int)))) = _
  have e : c * 2 ^ q.toNat / 2 ^ (-q).toNat = A := by
    by_cases hq : 0 ≤ q
    · have := pow_cancel h3 (k := 1074) (by omega) (Nat.le_refl _)
      rw [Nat.sub_self, Nat.pow_zero, Nat.mul_one, show (q + 1074).toNat - 1074 = q.toNat by omega] at this
      rw [this, show (-q).toNat = 0 by omega, Nat.pow_zero, Nat.div_one]
    · have := pow_cancel h3 (k := (q + 1074).toNat) (Nat.le_refl _) (by omega)
      rw [Nat.sub_self, Nat.pow_zero, Nat.mul_one, show 1074 - (q + 1074).toNat = (-q).toNat by omega] at this
      rw [this, show q.toNat = 0 by omega, Nat.pow_zero, Nat.mul_one, Nat.mul_div_cancel _ (Nat.two_pow_pos _)]
  rw [e]
  show Int64.ofInt _ = Int64.ofInt _
  congr 1
  omega
theorem fnan {x : UInt64} (h : vf_n64 x) : FP.dIsNaN x = false := by
  obtain ⟨s, n, hr, rfl⟩ := fZ_of h
  show decide (v64 (fZ s n) = .nan) = false
  rcases hr with hr | hr
  · unfold fZ; rw [if_pos hr, v64_inf]; simp
  · obtain ⟨c, q, h1, h2, h3⟩ := fN_v (fX_N (s := s) hr)
    rw [fZ_X hr, h2]; simp
/-- to the narrow width, exactly -/
theorem fX_d2f {s : Bool} {n : Nat} (h : gRep n) (h2 : fRep (n * 2 ^ 925)) : FP.d2f (fX s (n * 2 ^ 925)) = gX s n := by
  refine gN_X ?_
  unfold FP.d2f
  rw [show FP.Core.dIsNaN (fX s (n * 2 ^ 925)) = false from fnan (fX_vf h2)]
  obtain ⟨c, q, h3, h4, h5⟩ := fN_v (fX_N (s := s) h2)
  rw [fitsI] at h3
  show gN s n (UInt32.ofNat (FP.Core.encode FP.Core.b32 (FP.Core.round FP.Core.b32 (v64 (fX s (n * 2 ^ 925))))))
  rw [h4]
  exact gN_of (K := 1074) h (by omega) (by omega) (by rw [h5]; rfl)
theorem d2f_inf (s : Bool) : FP.d2f (infB s) = infG s := by cases s <;> decide +kernel
theorem f2d_inf (s : Bool) : FP.f2d (infG s) = infB s := by cases s <;> decide +kernel
theorem gRep_f {n : Nat} (h : gRep n) : fRep (n * 2 ^ 925) := by
  obtain ⟨c, q, h1, h2⟩ := h
  have hf := gitsI.mp (h1 false)
  rw [← h2, Nat.mul_assoc, ← Nat.pow_add]
  exact fRep_p _ c (by omega) (by omega)
theorem gX_f2d {s : Bool} {n : Nat} (h : gRep n) : FP.f2d (gX s n) = fX s (n * 2 ^ 925) := by
  refine fN_X ?_
  obtain ⟨c, q, h3, h4, h5⟩ := gN_v (gX_N (s := s) h)
  unfold FP.f2d
  rw [show FP.Core.fIsNaN (gX s n) = false from by show decide (v32 (gX s n) = .nan) = false; rw [h4]; simp]
  rw [gitsI] at h3
  show fN s (n * 2 ^ 925) (UInt64.ofNat (FP.Core.encode FP.Core.b64 (FP.Core.round FP.Core.b64 (v32 (gX s n)))))
  rw [h4]
  refine fN_of (K := 1074) (gRep_f h) (by omega) (by omega) ?_
  rw [← h5, show ((1074 : Int) - 1074).toNat = 0 by decide, Nat.pow_zero, Nat.mul_one, Nat.mul_assoc, ← Nat.pow_add]
  congr 2; omega
/-- rounding never makes what is no number -/
theorem rnd_vf {s : Bool} {A : Nat} {e : Int} : vf_n64 (UInt64.ofNat (FP.Core.encode FP.Core.b64 (FP.Core.roundRatio FP.Core.b64 s A 1 e))) := by
  have fin : ∀ (c : Nat) (q : Int), c < 9007199254740992 → q ≤ 971 → vf_n64 (UInt64.ofNat (FP.Core.encode FP.Core.b64 (.fin s c q))) := by
    intro c q hc hq
    rw [enc64, vf_nat]
    unfold fB
    have hE : (q + 1074).toNat ≤ 2045 := by omega
    generalize (q + 1074).toNat = E at hE
    rw [UInt64.toNat_ofNat']
    cases s <;> simp only [if_true, Bool.false_eq_true, if_false] <;> split <;> omega
  have inf : vf_n64 (UInt64.ofNat (FP.Core.encode FP.Core.b64 (.inf s))) := by cases s <;> (unfold vf_n64; decide +kernel)
  unfold FP.Core.roundRatio
  split
  · exact fin 0 _ (by decide) (by decide)
  · unfold FP.Core.roundAt FP.Core.settle FP.Core.bound
    rw [fqmax, ftails]
    split
    · rename_i h
      split
      · rename_i h2; exact fin _ _ h h2
      · exact inf
    · split
      · rename_i h2; exact fin _ _ (by decide) h2
      · exact inf
theorem rnd_vg {s : Bool} {A : Nat} {e : Int} : vf_n32 (UInt32.ofNat (FP.Core.encode FP.Core.b32 (FP.Core.roundRatio FP.Core.b32 s A 1 e))) := by
  have fin : ∀ (c : Nat) (q : Int), c < 16777216 → q ≤ 104 → vf_n32 (UInt32.ofNat (FP.Core.encode FP.Core.b32 (.fin s c q))) := by
    intro c q hc hq
    rw [enc32, vg_nat]
    unfold gB
    have hE : (q + 149).toNat ≤ 253 := by omega
    generalize (q + 149).toNat = E at hE
    rw [UInt32.toNat_ofNat']
    cases s <;> simp only [if_true, Bool.false_eq_true, if_false] <;> split <;> omega
  have inf : vf_n32 (UInt32.ofNat (FP.Core.encode FP.Core.b32 (.inf s))) := by cases s <;> (unfold vf_n32; decide +kernel)
  unfold FP.Core.roundRatio
  split
  · exact fin 0 _ (by decide) (by decide)
  · unfold FP.Core.roundAt FP.Core.settle FP.Core.bound
    rw [gqmax, gtails]
    split
    · rename_i h
      split
      · rename_i h2; exact fin _ _ h h2
      · exact inf
    · split
      · rename_i h2; exact fin _ _ (by decide) h2
      · exact inf
theorem l2d_vf (b : Int64) : vf_n64 (FP.l2d b) := rnd_vf
theorem l2f_vf (b : Int64) : vf_n32 (FP.l2f b) := rnd_vg
def gZ (s : Bool) (n : Nat) : UInt32 := if n = fTop then infG s else gX s n
def gR (n : Nat) : Prop := n = fTop ∨ gRep n
theorem gRep_lt {n : Nat} (h : gRep n) : n < fTop := by
  obtain ⟨c, q, h1, h2⟩ := h
  have hf := gitsI.mp (h1 false)
  rw [← h2]
  have e1 : c * 2 ^ (q + 149).toNat < 2 ^ 53 * 2 ^ (q + 149).toNat := Nat.mul_lt_mul_of_pos_right (by omega) (Nat.two_pow_pos _)
  have e2 : 2 ^ 53 * 2 ^ (q + 149).toNat ≤ 2 ^ 53 * 2 ^ 2045 := Nat.mul_le_mul_left _ (Nat.pow_le_pow_right (by decide) (by omega))
  have e3 : 2 ^ 53 * 2 ^ 2045 = fTop := by unfold fTop; rw [← Nat.pow_add]
  omega
theorem gZ_X {s : Bool} {n : Nat} (h : gRep n) : gZ s n = gX s n := by
  unfold gZ; rw [if_neg]; have := gRep_lt h; omega
theorem gZ_of {x : UInt32} (h : vf_n32 x) : ∃ s n, gR n ∧ x = gZ s n := by
  rw [vg_nat] at h
  by_cases h1 : x.toNat % 2147483648 = 2139095040
  · refine ⟨decide (2147483648 ≤ x.toNat), fTop, Or.inl rfl, ?_⟩
    unfold gZ infG
    rw [if_pos rfl]
    have := x.toNat_lt
    by_cases hs : 2147483648 ≤ x.toNat
    · simp only [hs, decide_true, if_true]
      exact UInt32.toNat_inj.mp (by rw [show (0xff800000 : UInt32).toNat = 4286578688 from by decide]; omega)
    · simp only [hs, decide_false, Bool.false_eq_true, if_false]
      exact UInt32.toNat_inj.mp (by rw [show (0x7f800000 : UInt32).toNat = 2139095040 from by decide]; omega)
  · obtain ⟨s, c, q, h2, h3⟩ := dec_in32 (x := x) (by omega)
    have hN : gN s (c * 2 ^ (q + 149).toNat) x := ⟨c, q, h2, h3, rfl⟩
    have hr : gRep (c * 2 ^ (q + 149).toNat) := ⟨c, q, fun s' => h2, rfl⟩
    exact ⟨s, _, Or.inr hr, by rw [gZ_X hr]; exact gN_X hN⟩

