/-! ===== the Model's numbers with points ===== -/
section ZFE
variable {κ : zK} {own nm : String} {cc : ByteArray} {nL : Nat} {ret : Option FieldType} {rm : Room} {P : Option Value → (Heap → Prop) → Prop} {Pic : Heap → Prop} {n k pc : Nat} {lv : List (Nat × Value)} {rest : List Value}
theorem z_dmulE (C : ZC κ own nm cc nL ret rm P) {x y v : UInt64} (q : Nat) (d : decode cc pc = .ok (.dmul, 1)) (h : FP.dmul x y = v) (hn : vf_n64 v) (hq : pc + 1 = q) (kk : Z κ Pic n k q lv (.double v :: rest)) : Z κ Pic n k pc lv (.double y :: .double x :: rest) := by subst h; exact z_dmul C q d hn hq kk
theorem z_daddE (C : ZC κ own nm cc nL ret rm P) {x y v : UInt64} (q : Nat) (d : decode cc pc = .ok (.dadd, 1)) (h : FP.dadd x y = v) (hn : vf_n64 v) (hq : pc + 1 = q) (kk : Z κ Pic n k q lv (.double v :: rest)) : Z κ Pic n k pc lv (.double y :: .double x :: rest) := by subst h; exact z_dadd C q d hn hq kk
theorem z_ddivE (C : ZC κ own nm cc nL ret rm P) {x y v : UInt64} (q : Nat) (d : decode cc pc = .ok (.ddiv, 1)) (h : FP.ddiv x y = v) (hn : vf_n64 v) (hq : pc + 1 = q) (kk : Z κ Pic n k q lv (.double v :: rest)) : Z κ Pic n k pc lv (.double y :: .double x :: rest) := by subst h; exact z_ddiv C q d hn hq kk
theorem z_dnegE (C : ZC κ own nm cc nL ret rm P) {x v : UInt64} (q : Nat) (d : decode cc pc = .ok (.dneg, 1)) (h : FP.dneg x = v) (hq : pc + 1 = q) (kk : Z κ Pic n k q lv (.double v :: rest)) : Z κ Pic n k pc lv (.double x :: rest) := by subst h; exact z_dneg C q d hq kk
theorem z_l2dE (C : ZC κ own nm cc nL ret rm P) {x : Int64} {v : UInt64} (q : Nat) (d : decode cc pc = .ok (.l2d, 1)) (h : FP.l2d x = v) (hq : pc + 1 = q) (kk : Z κ Pic n k q lv (.double v :: rest)) : Z κ Pic n k pc lv (.long x :: rest) := by subst h; exact z_l2d C q d hq kk
theorem z_l2fE (C : ZC κ own nm cc nL ret rm P) {x : Int64} {v : UInt32} (q : Nat) (d : decode cc pc = .ok (.l2f, 1)) (h : FP.l2f x = v) (hq : pc + 1 = q) (kk : Z κ Pic n k q lv (.float v :: rest)) : Z κ Pic n k pc lv (.long x :: rest) := by subst h; exact z_l2f C q d hq kk
theorem z_i2dE (C : ZC κ own nm cc nL ret rm P) {x : Int32} {v : UInt64} (q : Nat) (d : decode cc pc = .ok (.i2d, 1)) (h : FP.i2d x = v) (hq : pc + 1 = q) (kk : Z κ Pic n k q lv (.double v :: rest)) : Z κ Pic n k pc lv (.int x :: rest) := by subst h; exact z_i2d C q d hq kk
theorem z_d2lE (C : ZC κ own nm cc nL ret rm P) {x : UInt64} {v : Int} (q : Nat) (d : decode cc pc = .ok (.d2l, 1)) (h : FP.d2l x = lI v) (hq : pc + 1 = q) (kk : Z κ Pic n k q lv (.long (lI v) :: rest)) : Z κ Pic n k pc lv (.double x :: rest) := by refine z_d2l C q d hq ?_; rw [h]; exact kk
theorem z_f2dE (C : ZC κ own nm cc nL ret rm P) {x : UInt32} {v : UInt64} (q : Nat) (d : decode cc pc = .ok (.f2d, 1)) (h : FP.f2d x = v) (hn : vf_n64 v) (hq : pc + 1 = q) (kk : Z κ Pic n k q lv (.double v :: rest)) : Z κ Pic n k pc lv (.float x :: rest) := by subst h; exact z_f2d C q d hn hq kk
theorem z_d2fE (C : ZC κ own nm cc nL ret rm P) {x : UInt64} {v : UInt32} (q : Nat) (d : decode cc pc = .ok (.d2f, 1)) (h : FP.d2f x = v) (hn : vf_n32 v) (hq : pc + 1 = q) (kk : Z κ Pic n k q lv (.float v :: rest)) : Z κ Pic n k pc lv (.double x :: rest) := by subst h; exact z_d2f C q d hn hq kk
end ZFE
theorem fX_up {s : Bool} {c p : Nat} (hc : c < 9007199254740992) (hp : p + 1 ≤ 2045) : FP.dmul (fX s (c * 2 ^ p)) 0x4000000000000000 = fX s (c * 2 ^ (p + 1)) := by
  have := fX_two (s := s) (fRep_p p c hc (by omega)) (by rw [Nat.mul_assoc, ← Nat.pow_succ]; exact fRep_p (p + 1) c hc hp)
  rw [this, Nat.mul_assoc, ← Nat.pow_succ]
theorem fX_dn {s : Bool} {c p : Nat} (hc : c < 9007199254740992) (hp : p + 1 ≤ 2045) : FP.dmul (fX s (c * 2 ^ (p + 1))) 0x3fe0000000000000 = fX s (c * 2 ^ p) := by
  have := fX_half (s := s) (n := c * 2 ^ p) (by rw [Nat.mul_assoc, ← Nat.pow_succ]; exact fRep_p (p + 1) c hc hp)
  rw [← this, Nat.mul_assoc, ← Nat.pow_succ]
theorem fX_dn' {s : Bool} {c p q : Nat} (hc : c < 9007199254740992) (hp : p ≤ 2045) (h : q + 1 = p) : FP.dmul (fX s (c * 2 ^ p)) 0x3fe0000000000000 = fX s (c * 2 ^ q) := by subst h; exact fX_dn hc hp
theorem fX_pv {s : Bool} {c p : Nat} (hc : c < 9007199254740992) (hp : p ≤ 2045) : vf_n64 (fX s (c * 2 ^ p)) := fX_vf (fRep_p p c hc hp)
theorem fX_ng {s : Bool} {c p : Nat} (hc : c < 9007199254740992) (hp : p ≤ 2045) : FP.dneg (fX s (c * 2 ^ p)) = fX (!s) (c * 2 ^ p) := fX_neg (fRep_p p c hc hp)
theorem U64_sub {b : Int} (hb : inL b) (he : b / 4503599627370496 % 2048 = 0) : fX (decide (b < 0)) ((b % 4503599627370496).toNat * 2 ^ 0) = U64 b := by
  have hf : FP.Core.fits FP.Core.b64 (.fin (decide (b < 0)) (b % 4503599627370496).toNat (-1074)) := fitsI.mpr (by omega)
  have := fX_at hf
  rw [show ((-1074 : Int) + 1074).toNat = 0 from by decide] at this
  rw [this]
  apply UInt64.toNat_inj.mp
  rw [UInt64.toNat_ofNat_of_lt' (dec_fB hf).2]
  have hN := U64_nat b
  obtain ⟨h1, h2⟩ := hb
  unfold fB
  rw [if_pos (show (b % 4503599627370496).toNat < 4503599627370496 by omega)]
  by_cases h : b < 0
  · simp only [h, decide_true, if_true]; omega
  · simp only [h, decide_false, Bool.false_eq_true, if_false]; omega
theorem U64_nor {b : Int} {p : Nat} (hb : inL b) (he : b / 4503599627370496 % 2048 = (p : Int) + 1) (h7 : p < 2046) : fX (decide (b < 0)) ((b % 4503599627370496 + 4503599627370496).toNat * 2 ^ p) = U64 b := by
  have hf : FP.Core.fits FP.Core.b64 (.fin (decide (b < 0)) (b % 4503599627370496 + 4503599627370496).toNat ((p : Int) - 1074)) := fitsI.mpr (by omega)
  have := fX_at hf
  rw [show ((p : Int) - 1074 + 1074).toNat = p from by omega] at this
  rw [this]
  apply UInt64.toNat_inj.mp
  rw [UInt64.toNat_ofNat_of_lt' (dec_fB hf).2]
  have hN := U64_nat b
  obtain ⟨h1, h2⟩ := hb
  unfold fB
  rw [if_neg (show ¬ (b % 4503599627370496 + 4503599627370496).toNat < 4503599627370496 by omega), show ((p : Int) - 1074 + 1074).toNat = p from by omega]
  by_cases h : b < 0
  · simp only [h, decide_true, if_true]; omega
  · simp only [h, decide_false, Bool.false_eq_true, if_false]; omega
theorem U64_inf {b : Int} (hb : inL b) (he : b / 4503599627370496 % 2048 = 2047) (hk : b % 9223372036854775808 ≤ 9218868437227405312) : infB (decide (b < 0)) = U64 b := by
  apply UInt64.toNat_inj.mp
  have hN := U64_nat b
  obtain ⟨h1, h2⟩ := hb
  unfold infB
  by_cases h : b < 0
  · simp only [h, decide_true, if_true]; rw [show (0xfff0000000000000 : UInt64).toNat = 18442240474082181120 from by decide]; omega
  · simp only [h, decide_false, Bool.false_eq_true, if_false]; rw [show (0x7ff0000000000000 : UInt64).toNat = 9218868437227405312 from by decide]; omega
theorem U32_sub {b : Int} (hb : inR b) (he : b / 8388608 % 256 = 0) : gX (decide (b < 0)) ((b % 8388608).toNat * 2 ^ 0) = U32 b := by
  have hf : FP.Core.fits FP.Core.b32 (.fin (decide (b < 0)) (b % 8388608).toNat (-149)) := gitsI.mpr (by omega)
  have := gX_at hf
  rw [show ((-149 : Int) + 149).toNat = 0 from by decide] at this
  rw [this]
  apply UInt32.toNat_inj.mp
  rw [UInt32.toNat_ofNat_of_lt' (dec_gB hf).2]
  have hN := U32_nat b
  obtain ⟨h1, h2⟩ := hb
  unfold gB
  rw [if_pos (show (b % 8388608).toNat < 8388608 by omega)]
  by_cases h : b < 0
  · simp only [h, decide_true, if_true]; omega
  · simp only [h, decide_false, Bool.false_eq_true, if_false]; omega
theorem U32_nor {b : Int} {p : Nat} (hb : inR b) (he : b / 8388608 % 256 = (p : Int) + 1) (h7 : p < 254) : gX (decide (b < 0)) ((b % 8388608 + 8388608).toNat * 2 ^ p) = U32 b := by
  have hf : FP.Core.fits FP.Core.b32 (.fin (decide (b < 0)) (b % 8388608 + 8388608).toNat ((p : Int) - 149)) := gitsI.mpr (by omega)
  have := gX_at hf
  rw [show ((p : Int) - 149 + 149).toNat = p from by omega] at this
  rw [this]
  apply UInt32.toNat_inj.mp
  rw [UInt32.toNat_ofNat_of_lt' (dec_gB hf).2]
  have hN := U32_nat b
  obtain ⟨h1, h2⟩ := hb
  unfold gB
  rw [if_neg (show ¬ (b % 8388608 + 8388608).toNat < 8388608 by omega), show ((p : Int) - 149 + 149).toNat = p from by omega]
  by_cases h : b < 0
  · simp only [h, decide_true, if_true]; omega
  · simp only [h, decide_false, Bool.false_eq_true, if_false]; omega
theorem U32_inf {b : Int} (hb : inR b) (he : b / 8388608 % 256 = 255) (hk : b % 2147483648 ≤ 2139095040) : infG (decide (b < 0)) = U32 b := by
  apply UInt32.toNat_inj.mp
  have hN := U32_nat b
  obtain ⟨h1, h2⟩ := hb
  unfold infG
  by_cases h : b < 0
  · simp only [h, decide_true, if_true]; rw [show (0xff800000 : UInt32).toNat = 4286578688 from by decide]; omega
  · simp only [h, decide_false, Bool.false_eq_true, if_false]; rw [show (0x7f800000 : UInt32).toNat = 2139095040 from by decide]; omega
theorem gX_d2f {s : Bool} {c p q : Nat} (hc : c < 16777216) (hp : p = q + 925) (hq : q ≤ 253) : FP.d2f (fX s (c * 2 ^ p)) = gX s (c * 2 ^ q) := by
  subst hp
  rw [Nat.pow_add, ← Nat.mul_assoc]
  exact fX_d2f (gRep_p q c hc hq) (gRep_f (gRep_p q c hc hq))
theorem gX_pv {s : Bool} {c p : Nat} (hc : c < 16777216) (hp : p ≤ 253) : vf_n32 (gX s (c * 2 ^ p)) := by
  obtain ⟨c', q', h1, h2, h3⟩ := gX_N (s := s) (gRep_p p c hc hp)
  rw [vg_nat, h2]
  rw [gitsI] at h1
  unfold gB
  cases s <;> simp only [if_true, Bool.false_eq_true, if_false] <;> split <;> omega
theorem infG_vg (s : Bool) : vf_n32 (infG s) := by cases s <;> (unfold vf_n32 infG; decide)
theorem infB_vf (s : Bool) : vf_n64 (infB s) := by cases s <;> (unfold vf_n64 infB; decide)

set_option maxRecDepth 100000 in
theorem k7_scaled {l : Launch} {θ : zTh} {Pic : Heap → Prop} (s : Bool) (c : Nat) (p : Nat) (p' : Nat) (b : Int) (r_b : inR b) (hc : c < 9007199254740992) (hp : p ≤ 2045) (hp' : p' ≤ 2045) (hb : (p' : Int) = p + b) : ZF θ l yX7_scaled cX7_scaled 6 (some .double) ⟨0, 0, 0, 0⟩ [.double (fX s (c * 2 ^ p)), .int (iI (b))] (Pic) (some (.double (fX s (c * 2 ^ p')))) (Pic) := by
  refine z_start (own := RX7) (nm := "scaled") pnX7 rfl rfl (Nat.le_of_ble_eq_true rfl) ?_
  intro κ hκ hκl C
  change Z κ (Pic) 0 0 0 [(0, .double (fX s (c * 2 ^ p))), (2, .int (iI (b)))] []
  have rb1 := r_b.1; have rb2 := r_b.2
  refine z_dload_n C 1 0 dX7_scaled_0 rfl rfl ?_
  refine z_dstore_n (lv' := [(0, .double (fX s (c * 2 ^ p))), (2, .int (iI (b))), (3, .double (fX s (c * 2 ^ p)))]) C 2 [1, 2, 0] dX7_scaled_1 (by decide) rfl rfl ?_
  refine z_iload_n C 3 1 dX7_scaled_2 rfl rfl ?_
  refine z_istore (lv' := [(0, .double (fX s (c * 2 ^ p))), (2, .int (iI (b))), (3, .double (fX s (c * 2 ^ p))), (5, .int (iI (b)))]) C 5 [1, 2, 3, 0] dX7_scaled_3 (by decide) rfl rfl ?_
  have L5_1 : ∀ (fu : Nat) (j : Nat) (hj : j ≤ b.toNat) (hme : b.toNat - j < fu), Z κ (Pic) 0 0 5 [(0, .double (fX s (c * 2 ^ p))), (2, .int (iI (b))), (3, .double (fX s (c * 2 ^ (p + j)))), (5, .int (iI (b - j)))] [] := by
    intro fu
    induction fu with
    | zero => intro j hj hme; exact absurd hme (Nat.not_lt_zero _)
    | succ fu ih2 =>
      intro j hj hme
      refine z_iload C 7 3 dX7_scaled_5 rfl rfl ?_
      refine z_if_le C 22 10 dX7_scaled_7 (by decide) ⟨by omega, by omega⟩ rfl (fun c3 => ?_) (fun c3 => ?_)
      · skip
        refine z_iload_n C 23 1 dX7_scaled_22 rfl rfl ?_
        refine z_istore (lv' := [(0, .double (fX s (c * 2 ^ p))), (2, .int (iI (b))), (3, .double (fX s (c * 2 ^ (p + j)))), (5, .int (iI (b)))]) C 25 [1, 2, 3, 0] dX7_scaled_23 (by decide) rfl rfl ?_
        have L25_4 : ∀ (fu : Nat) (q : Nat) (k : Int) (hk : (0 ≤ k ∧ q = p') ∨ (k < 0 ∧ k = (p' : Int) - q)) (hq : q ≤ 2045) (hkr : inR k) (hme : (-k).toNat < fu), Z κ (Pic) 0 0 25 [(0, .double (fX s (c * 2 ^ p))), (2, .int (iI (b))), (3, .double (fX s (c * 2 ^ q))), (5, .int (iI (k)))] [] := by
          intro fu
          induction fu with
          | zero => intro q k hk hq hkr hme; exact absurd hme (Nat.not_lt_zero _)
          | succ fu ih5 =>
            intro q k hk hq hkr hme
            refine z_iload C 27 3 dX7_scaled_25 rfl rfl ?_
            refine z_if_ge C 42 30 dX7_scaled_27 (by decide) hkr rfl (fun c6 => ?_) (fun c6 => ?_)
            · skip
              refine z_dload_n C 43 2 dX7_scaled_42 rfl rfl ?_
              exact z_dret C dX7_scaled_43 (Nat.le_of_ble_eq_true rfl) (Nat.le_of_ble_eq_true rfl) ⟨congrArg some (by rw [show q = p' by omega]), rfl⟩
            · skip
              refine z_dload_n C 31 2 dX7_scaled_30 rfl rfl ?_
              refine z_ldc2d C 34 dX7_scaled_31 q2441 rfl ?_
              refine z_dmulE (v := fX s (c * 2 ^ (q - 1))) C 35 dX7_scaled_34 (fX_dn' hc hq (by omega)) (fX_pv hc (by omega)) rfl ?_
              refine z_dstore_n (lv' := [(0, .double (fX s (c * 2 ^ p))), (2, .int (iI (b))), (3, .double (fX s (c * 2 ^ (q - 1)))), (5, .int (iI (k)))]) C 36 [1, 2, 0, 3] dX7_scaled_35 (by decide) rfl rfl ?_
              refine z_iinc (lv' := [(0, .double (fX s (c * 2 ^ p))), (2, .int (iI (b))), (3, .double (fX s (c * 2 ^ (q - 1)))), (5, .int (iI ((k) + 1)))]) C 39 3 [1, 2, 3, 0] dX7_scaled_36 rfl (by decide) rfl rfl ?_
              refine z_goto C 25 dX7_scaled_39 (by decide) ?_
              refine z_as (lv' := [(0, .double (fX s (c * 2 ^ p))), (2, .int (iI (b))), (3, .double (fX s (c * 2 ^ (q - 1)))), (5, .int (iI ((k + 1))))]) rfl rfl rfl ?_
              exact ih5 (q - 1) (k + 1) (by omega) (by omega) ⟨by have := hkr.1; omega, by omega⟩ (by omega)
        refine z_as (lv' := [(0, .double (fX s (c * 2 ^ p))), (2, .int (iI (b))), (3, .double (fX s (c * 2 ^ (p + j)))), (5, .int (iI ((b))))]) rfl rfl rfl ?_
        exact L25_4 _ (p + j) (b) (by omega) (by omega) r_b (Nat.lt_succ_self _)
      · skip
        refine z_dload_n C 11 2 dX7_scaled_10 rfl rfl ?_
        refine z_ldc2d C 14 dX7_scaled_11 q2440 rfl ?_
        refine z_dmulE (v := fX s (c * 2 ^ (p + (j + 1)))) C 15 dX7_scaled_14 (fX_up hc (by omega)) (fX_pv hc (by omega)) rfl ?_
        refine z_dstore_n (lv' := [(0, .double (fX s (c * 2 ^ p))), (2, .int (iI (b))), (3, .double (fX s (c * 2 ^ (p + (j + 1))))), (5, .int (iI (b - j)))]) C 16 [1, 2, 0, 3] dX7_scaled_15 (by decide) rfl rfl ?_
        refine z_iinc (lv' := [(0, .double (fX s (c * 2 ^ p))), (2, .int (iI (b))), (3, .double (fX s (c * 2 ^ (p + (j + 1))))), (5, .int (iI ((b - j) + (-1))))]) C 19 3 [1, 2, 3, 0] dX7_scaled_16 rfl (by decide) rfl rfl ?_
        refine z_goto C 5 dX7_scaled_19 (by decide) ?_
        refine z_as (lv' := [(0, .double (fX s (c * 2 ^ p))), (2, .int (iI (b))), (3, .double (fX s (c * 2 ^ (p + (j + 1))))), (5, .int (iI (b - (j + 1))))]) rfl (congrArg (fun z9 => ([(0, .double (fX s (c * 2 ^ p))), (2, .int (iI (b))), (3, .double (fX s (c * 2 ^ (p + (j + 1))))), (5, .int (iI (z9)))] : List (Nat × Value))) (show ((b - j) + (-1)) = (b - (j + 1)) from (by omega))) rfl ?_
        exact ih2 (j + 1) (by omega) (by omega)
  refine z_as (lv' := [(0, .double (fX s (c * 2 ^ p))), (2, .int (iI (b))), (3, .double (fX s (c * 2 ^ (p + (0))))), (5, .int (iI (b - (0))))]) rfl (congrArg (fun z9 => ([(0, .double (fX s (c * 2 ^ p))), (2, .int (iI (b))), (3, .double (fX s (c * 2 ^ p))), (5, .int (iI (z9)))] : List (Nat × Value))) (show (b) = (b - (0)) from (by omega))) rfl ?_
  exact L5_1 _ (0) (by omega) (Nat.lt_succ_self _)
set_option maxRecDepth 100000 in
theorem k7_doubleOf {l : Launch} {θ : zTh} {Pic : Heap → Prop} (b : Int) (r_b : inL b) (hb : zlandd b 9223372036854775807 ≤ 9218868437227405312) : ZF θ l yX7_doubleOf cX7_doubleOf 7 (some .double) ⟨1, 0, 0, 25⟩ [.long (lI (b))] (Pic) (some (.double (U64 b))) (Pic) := by
  refine z_start (own := RX7) (nm := "doubleOf") pnX7 rfl rfl (Nat.le_of_ble_eq_true rfl) ?_
  intro κ hκ hκl C
  change Z κ (Pic) 0 0 0 [(0, .long (lI (b)))] []
  have rb1 := r_b.1; have rb2 := r_b.2
  refine z_lload_n C 1 0 dX7_doubleOf_0 rfl rfl ?_
  refine z_ldc2 (z := 4503599627370495) C 4 dX7_doubleOf_1 q2551 (by decide) rfl ?_
  refine z_land C 5 dX7_doubleOf_4 rfl ?_
  have hm : zlandd (b) (4503599627370495) = b % 4503599627370496 := zlandd_mask 52 (by decide) (by decide)
  have hk : zlandd b 9223372036854775807 = b % 9223372036854775808 := zlandd_mask 63 (by decide) (by decide)
  rw [hk] at hb
  refine z_lstore_n (lv' := [(0, .long (lI (b))), (2, .long (lI (zlandd (b) (4503599627370495))))]) C 6 [1, 0] dX7_doubleOf_5 (by decide) rfl rfl ?_
  refine z_lload_n C 7 0 dX7_doubleOf_6 rfl rfl ?_
  refine z_bipush C 9 dX7_doubleOf_7 (by decide) rfl ?_
  refine z_lshr (v := lI ((b) / 4503599627370496)) C 10 dX7_doubleOf_9 (lI_shr 52 (by decide) r_b) rfl ?_
  refine z_ldc2 (z := 2047) C 13 dX7_doubleOf_10 q2552 (by decide) rfl ?_
  refine z_land C 14 dX7_doubleOf_13 rfl ?_
  have he : zlandd ((b) / 4503599627370496) (2047) = b / 4503599627370496 % 2048 := zlandd_mask 11 (by decide) (by decide)
  refine z_l2i C 15 dX7_doubleOf_14 rfl ?_
  refine z_istore (lv' := [(0, .long (lI (b))), (2, .long (lI (zlandd (b) (4503599627370495)))), (4, .int (iI (zlandd ((b) / 4503599627370496) (2047))))]) C 17 [1, 2, 0] dX7_doubleOf_15 (by decide) rfl rfl ?_
  refine z_iload C 19 2 dX7_doubleOf_17 rfl rfl ?_
  refine z_sipush C 22 dX7_doubleOf_19 (by decide) rfl ?_
  refine z_icmp_ne C 31 25 dX7_doubleOf_22 (by decide) ⟨by omega, by omega⟩ ⟨by decide, by decide⟩ rfl (fun c1 => ?_) (fun c1 => ?_)
  · skip
    refine z_iload C 33 2 dX7_doubleOf_31 rfl rfl ?_
    refine z_if_ne C 47 36 dX7_doubleOf_33 (by decide) ⟨by omega, by omega⟩ rfl (fun c2 => ?_) (fun c2 => ?_)
    · skip
      refine z_lload_n C 48 1 dX7_doubleOf_47 rfl rfl ?_
      refine z_ldc2 (z := 4503599627370496) C 51 dX7_doubleOf_48 q2553 (by decide) rfl ?_
      refine z_ladd C 52 dX7_doubleOf_51 rfl ?_
      refine z_l2dE (v := fX false (((zlandd (b) (4503599627370495)) + (4503599627370496)).toNat * 2 ^ 1074)) C 53 dX7_doubleOf_52 (fX_l2d (by omega)) rfl ?_
      refine z_iload C 55 2 dX7_doubleOf_53 rfl rfl ?_
      refine z_sipush C 58 dX7_doubleOf_55 (by decide) rfl ?_
      refine z_isub C 59 dX7_doubleOf_58 rfl ?_
      refine z_callSF (n' := 0) (k' := 0) (As := [.double (fX false (((zlandd (b) (4503599627370495)) + (4503599627370496)).toNat * 2 ^ 1074)), .int (iI ((zlandd ((b) / 4503599627370496) (2047)) - (1075)))]) (rest := []) C hκ hκl 62 (k7_scaled false (((zlandd (b) (4503599627370495)) + (4503599627370496)).toNat) 1074 ((zlandd ((b) / 4503599627370496) (2047)).toNat - 1) ((zlandd ((b) / 4503599627370496) (2047)) - (1075)) ⟨by omega, by omega⟩ (by omega) (by omega) (by omega) (by omega)) dX7_doubleOf_59 q2437 q2438 q97 q2439 znX7_scaled (Nat.le_of_ble_eq_true rfl) (Nat.le_of_ble_eq_true rfl) (Nat.le_of_ble_eq_true rfl) (Nat.le_of_ble_eq_true rfl) rfl (Nat.le_of_ble_eq_true rfl) rfl rfl rfl ?_
      refine z_dstore (lv' := [(0, .long (lI (b))), (2, .long (lI (zlandd (b) (4503599627370495)))), (4, .int (iI (zlandd ((b) / 4503599627370496) (2047)))), (5, .double (fX false (((zlandd (b) (4503599627370495)) + (4503599627370496)).toNat * 2 ^ ((zlandd ((b) / 4503599627370496) (2047)).toNat - 1))))]) C 64 [1, 2, 3, 0] dX7_doubleOf_62 (by decide) rfl rfl ?_
      refine z_lload_n C 65 0 dX7_doubleOf_64 rfl rfl ?_
      refine z_lconst (x := 0) C 66 dX7_doubleOf_65 rfl rfl ?_
      refine z_lcmp C 67 dX7_doubleOf_66 r_b ⟨by decide, by decide⟩ rfl ?_
      refine z_ifC_ge C 76 70 dX7_doubleOf_67 (by decide) rfl (fun c3 => ?_) (fun c3 => ?_)
      · skip
        refine z_dload C 78 3 dX7_doubleOf_76 rfl rfl ?_
        exact z_dret C dX7_doubleOf_78 (Nat.le_of_ble_eq_true rfl) (Nat.le_of_ble_eq_true rfl) ⟨congrArg some (by refine congrArg Value.double ?_; rw [← U64_nor (p := (zlandd ((b) / 4503599627370496) (2047)).toNat - 1) r_b (by omega) (by omega), show decide (b < 0) = false from by simp; omega, hm]), rfl⟩
      · skip
        refine z_dload C 72 3 dX7_doubleOf_70 rfl rfl ?_
        refine z_dnegE (v := fX true (((zlandd (b) (4503599627370495)) + (4503599627370496)).toNat * 2 ^ ((zlandd ((b) / 4503599627370496) (2047)).toNat - 1))) C 73 dX7_doubleOf_72 (fX_ng (by omega) (by omega)) rfl ?_
        refine z_goto C 78 dX7_doubleOf_73 (by decide) ?_
        exact z_dret C dX7_doubleOf_78 (Nat.le_of_ble_eq_true rfl) (Nat.le_of_ble_eq_true rfl) ⟨congrArg some (by refine congrArg Value.double ?_; rw [← U64_nor (p := (zlandd ((b) / 4503599627370496) (2047)).toNat - 1) r_b (by omega) (by omega), show decide (b < 0) = true from by simp; omega, hm]), rfl⟩
    · skip
      refine z_lload_n C 37 1 dX7_doubleOf_36 rfl rfl ?_
      refine z_l2dE (v := fX false ((zlandd (b) (4503599627370495)).toNat * 2 ^ 1074)) C 38 dX7_doubleOf_37 (fX_l2d (by omega)) rfl ?_
      refine z_sipush C 41 dX7_doubleOf_38 (by decide) rfl ?_
      refine z_callSF (n' := 0) (k' := 0) (As := [.double (fX false ((zlandd (b) (4503599627370495)).toNat * 2 ^ 1074)), .int (iI (-1074))]) (rest := []) C hκ hκl 44 (k7_scaled false ((zlandd (b) (4503599627370495)).toNat) 1074 0 (-1074) ⟨by decide, by decide⟩ (by omega) (by omega) (by omega) (by omega)) dX7_doubleOf_41 q2437 q2438 q97 q2439 znX7_scaled (Nat.le_of_ble_eq_true rfl) (Nat.le_of_ble_eq_true rfl) (Nat.le_of_ble_eq_true rfl) (Nat.le_of_ble_eq_true rfl) rfl (Nat.le_of_ble_eq_true rfl) rfl rfl rfl ?_
      refine z_goto C 62 dX7_doubleOf_44 (by decide) ?_
      refine z_dstore (lv' := [(0, .long (lI (b))), (2, .long (lI (zlandd (b) (4503599627370495)))), (4, .int (iI (zlandd ((b) / 4503599627370496) (2047)))), (5, .double (fX false ((zlandd (b) (4503599627370495)).toNat * 2 ^ 0)))]) C 64 [1, 2, 3, 0] dX7_doubleOf_62 (by decide) rfl rfl ?_
      refine z_lload_n C 65 0 dX7_doubleOf_64 rfl rfl ?_
      refine z_lconst (x := 0) C 66 dX7_doubleOf_65 rfl rfl ?_
      refine z_lcmp C 67 dX7_doubleOf_66 r_b ⟨by decide, by decide⟩ rfl ?_
      refine z_ifC_ge C 76 70 dX7_doubleOf_67 (by decide) rfl (fun c4 => ?_) (fun c4 => ?_)
      · skip
        refine z_dload C 78 3 dX7_doubleOf_76 rfl rfl ?_
        exact z_dret C dX7_doubleOf_78 (Nat.le_of_ble_eq_true rfl) (Nat.le_of_ble_eq_true rfl) ⟨congrArg some (by refine congrArg Value.double ?_; rw [← U64_sub r_b (by omega), show decide (b < 0) = false from by simp; omega, hm]), rfl⟩
      · skip
        refine z_dload C 72 3 dX7_doubleOf_70 rfl rfl ?_
        refine z_dnegE (v := fX true ((zlandd (b) (4503599627370495)).toNat * 2 ^ 0)) C 73 dX7_doubleOf_72 (fX_ng (by omega) (by omega)) rfl ?_
        refine z_goto C 78 dX7_doubleOf_73 (by decide) ?_
        exact z_dret C dX7_doubleOf_78 (Nat.le_of_ble_eq_true rfl) (Nat.le_of_ble_eq_true rfl) ⟨congrArg some (by refine congrArg Value.double ?_; rw [← U64_sub r_b (by omega), show decide (b < 0) = true from by simp; omega, hm]), rfl⟩
  · skip
    refine z_ldc2d C 28 dX7_doubleOf_25 q2436 rfl ?_
    refine z_goto C 62 dX7_doubleOf_28 (by decide) ?_
    refine z_dstore (lv' := [(0, .long (lI (b))), (2, .long (lI (zlandd (b) (4503599627370495)))), (4, .int (iI (zlandd ((b) / 4503599627370496) (2047)))), (5, .double (9218868437227405312))]) C 64 [1, 2, 3, 0] dX7_doubleOf_62 (by decide) rfl rfl ?_
    refine z_lload_n C 65 0 dX7_doubleOf_64 rfl rfl ?_
    refine z_lconst (x := 0) C 66 dX7_doubleOf_65 rfl rfl ?_
    refine z_lcmp C 67 dX7_doubleOf_66 r_b ⟨by decide, by decide⟩ rfl ?_
    refine z_ifC_ge C 76 70 dX7_doubleOf_67 (by decide) rfl (fun c5 => ?_) (fun c5 => ?_)
    · skip
      refine z_dload C 78 3 dX7_doubleOf_76 rfl rfl ?_
      exact z_dret C dX7_doubleOf_78 (Nat.le_of_ble_eq_true rfl) (Nat.le_of_ble_eq_true rfl) ⟨congrArg some (by refine congrArg Value.double ?_; rw [← U64_inf r_b (by omega) hb, show decide (b < 0) = false from by simp; omega]; rfl), rfl⟩
    · skip
      refine z_dload C 72 3 dX7_doubleOf_70 rfl rfl ?_
      refine z_dnegE (v := infB true) C 73 dX7_doubleOf_72 (by decide +kernel) rfl ?_
      refine z_goto C 78 dX7_doubleOf_73 (by decide) ?_
      exact z_dret C dX7_doubleOf_78 (Nat.le_of_ble_eq_true rfl) (Nat.le_of_ble_eq_true rfl) ⟨congrArg some (by refine congrArg Value.double ?_; rw [← U64_inf r_b (by omega) hb, show decide (b < 0) = true from by simp; omega]), rfl⟩
set_option maxRecDepth 100000 in
theorem k7_floatOf {l : Launch} {θ : zTh} {Pic : Heap → Prop} (b : Int) (r_b : inL b) (hr : inR b) (hb : zlandd b 2147483647 ≤ 2139095040) : ZF θ l yX7_floatOf cX7_floatOf 6 (some .float) ⟨1, 0, 0, 25⟩ [.long (lI (b))] (Pic) (some (.float (U32 b))) (Pic) := by
  refine z_start (own := RX7) (nm := "floatOf") pnX7 rfl rfl (Nat.le_of_ble_eq_true rfl) ?_
  intro κ hκ hκl C
  change Z κ (Pic) 0 0 0 [(0, .long (lI (b)))] []
  have rb1 := r_b.1; have rb2 := r_b.2; have rb3 := hr.1; have rb4 := hr.2
  refine z_lload_n C 1 0 dX7_floatOf_0 rfl rfl ?_
  refine z_ldc2 (z := 8388607) C 4 dX7_floatOf_1 q2434 (by decide) rfl ?_
  refine z_land C 5 dX7_floatOf_4 rfl ?_
  have hm : zlandd (b) (8388607) = b % 8388608 := zlandd_mask 23 (by decide) (by decide)
  have hk : zlandd b 2147483647 = b % 2147483648 := zlandd_mask 31 (by decide) (by decide)
  have hg : zlandd (b) (2147483648) = if b < 0 then 2147483648 else 0 := zlandd_bit31 hr
  rw [hk] at hb
  refine z_l2i C 6 dX7_floatOf_5 rfl ?_
  refine z_istore_n (lv' := [(0, .long (lI (b))), (2, .int (iI (zlandd (b) (8388607))))]) C 7 [1, 0] dX7_floatOf_6 (by decide) rfl rfl ?_
  refine z_lload_n C 8 0 dX7_floatOf_7 rfl rfl ?_
  refine z_bipush C 10 dX7_floatOf_8 (by decide) rfl ?_
  refine z_lshr (v := lI ((b) / 8388608)) C 11 dX7_floatOf_10 (lI_shr 23 (by decide) r_b) rfl ?_
  refine z_ldc2 (z := 255) C 14 dX7_floatOf_11 q2435 (by decide) rfl ?_
  have he : zlandd ((b) / 8388608) (255) = b / 8388608 % 256 := zlandd_mask 8 (by decide) (by decide)
  refine z_land C 15 dX7_floatOf_14 rfl ?_
  refine z_l2i C 16 dX7_floatOf_15 rfl ?_
  refine z_istore_n (lv' := [(0, .long (lI (b))), (2, .int (iI (zlandd (b) (8388607)))), (3, .int (iI (zlandd ((b) / 8388608) (255))))]) C 17 [1, 2, 0] dX7_floatOf_16 (by decide) rfl rfl ?_
  refine z_iload_n C 18 2 dX7_floatOf_17 rfl rfl ?_
  refine z_sipush C 21 dX7_floatOf_18 (by decide) rfl ?_
  refine z_icmp_ne C 30 24 dX7_floatOf_21 (by decide) ⟨by omega, by omega⟩ ⟨by decide, by decide⟩ rfl (fun c1 => ?_) (fun c1 => ?_)
  · skip
    refine z_iload_n C 31 2 dX7_floatOf_30 rfl rfl ?_
    refine z_if_ne C 45 34 dX7_floatOf_31 (by decide) ⟨by omega, by omega⟩ rfl (fun c2 => ?_) (fun c2 => ?_)
    · skip
      refine z_iload_n C 46 1 dX7_floatOf_45 rfl rfl ?_
      refine z_ldcw (z := 8388608) C 49 dX7_floatOf_46 q2442 (by decide) rfl ?_
      refine z_iadd C 50 dX7_floatOf_49 rfl ?_
      refine z_i2dE (v := fX false (((zlandd (b) (8388607)) + (8388608)).toNat * 2 ^ 1074)) C 51 dX7_floatOf_50 (fX_i2d (by omega)) rfl ?_
      refine z_iload_n C 52 2 dX7_floatOf_51 rfl rfl ?_
      refine z_sipush C 55 dX7_floatOf_52 (by decide) rfl ?_
      refine z_isub C 56 dX7_floatOf_55 rfl ?_
      refine z_callSF (n' := 0) (k' := 0) (As := [.double (fX false (((zlandd (b) (8388607)) + (8388608)).toNat * 2 ^ 1074)), .int (iI ((zlandd ((b) / 8388608) (255)) - (150)))]) (rest := []) C hκ hκl 59 (k7_scaled false (((zlandd (b) (8388607)) + (8388608)).toNat) 1074 ((zlandd ((b) / 8388608) (255)).toNat - 1 + 925) ((zlandd ((b) / 8388608) (255)) - (150)) ⟨by omega, by omega⟩ (by omega) (by omega) (by omega) (by omega)) dX7_floatOf_56 q2437 q2438 q97 q2439 znX7_scaled (Nat.le_of_ble_eq_true rfl) (Nat.le_of_ble_eq_true rfl) (Nat.le_of_ble_eq_true rfl) (Nat.le_of_ble_eq_true rfl) rfl (Nat.le_of_ble_eq_true rfl) rfl rfl rfl ?_
      refine z_dstore (lv' := [(0, .long (lI (b))), (2, .int (iI (zlandd (b) (8388607)))), (3, .int (iI (zlandd ((b) / 8388608) (255)))), (4, .double (fX false (((zlandd (b) (8388607)) + (8388608)).toNat * 2 ^ ((zlandd ((b) / 8388608) (255)).toNat - 1 + 925))))]) C 61 [1, 2, 3, 0] dX7_floatOf_59 (by decide) rfl rfl ?_
      refine z_lload_n C 62 0 dX7_floatOf_61 rfl rfl ?_
      refine z_ldc2 (z := 2147483648) C 65 dX7_floatOf_62 q2443 (by decide) rfl ?_
      refine z_land C 66 dX7_floatOf_65 rfl ?_
      refine z_lconst (x := 0) C 67 dX7_floatOf_66 rfl rfl ?_
      refine z_lcmp C 68 dX7_floatOf_67 (inL_zlandd _ _) ⟨by decide, by decide⟩ rfl ?_
      refine z_ifC_eq C 77 71 dX7_floatOf_68 (by decide) rfl (fun c3 => ?_) (fun c3 => ?_)
      · skip
        refine z_dload C 79 3 dX7_floatOf_77 rfl rfl ?_
        refine z_d2fE (v := gX false (((zlandd (b) (8388607)) + (8388608)).toNat * 2 ^ ((zlandd ((b) / 8388608) (255)).toNat - 1))) C 80 dX7_floatOf_79 (gX_d2f (by omega) rfl (by omega)) (gX_pv (by omega) (by omega)) rfl ?_
        exact z_fret C dX7_floatOf_80 (Nat.le_of_ble_eq_true rfl) (Nat.le_of_ble_eq_true rfl) ⟨congrArg some (by refine congrArg Value.float ?_; rw [← U32_nor (p := (zlandd ((b) / 8388608) (255)).toNat - 1) hr (by omega) (by omega), show decide (b < 0) = false from by by_cases h : b < 0 <;> simp [h] at hg ⊢ <;> omega, hm]), rfl⟩
      · skip
        refine z_dload C 73 3 dX7_floatOf_71 rfl rfl ?_
        refine z_dnegE (v := fX true (((zlandd (b) (8388607)) + (8388608)).toNat * 2 ^ ((zlandd ((b) / 8388608) (255)).toNat - 1 + 925))) C 74 dX7_floatOf_73 (fX_ng (by omega) (by omega)) rfl ?_
        refine z_goto C 79 dX7_floatOf_74 (by decide) ?_
        refine z_d2fE (v := gX true (((zlandd (b) (8388607)) + (8388608)).toNat * 2 ^ ((zlandd ((b) / 8388608) (255)).toNat - 1))) C 80 dX7_floatOf_79 (gX_d2f (by omega) rfl (by omega)) (gX_pv (by omega) (by omega)) rfl ?_
        exact z_fret C dX7_floatOf_80 (Nat.le_of_ble_eq_true rfl) (Nat.le_of_ble_eq_true rfl) ⟨congrArg some (by refine congrArg Value.float ?_; rw [← U32_nor (p := (zlandd ((b) / 8388608) (255)).toNat - 1) hr (by omega) (by omega), show decide (b < 0) = true from by by_cases h : b < 0 <;> simp [h] at hg ⊢ <;> omega, hm]), rfl⟩
    · skip
      refine z_iload_n C 35 1 dX7_floatOf_34 rfl rfl ?_
      refine z_i2dE (v := fX false ((zlandd (b) (8388607)).toNat * 2 ^ 1074)) C 36 dX7_floatOf_35 (fX_i2d (by omega)) rfl ?_
      refine z_sipush C 39 dX7_floatOf_36 (by decide) rfl ?_
      refine z_callSF (n' := 0) (k' := 0) (As := [.double (fX false ((zlandd (b) (8388607)).toNat * 2 ^ 1074)), .int (iI (-149))]) (rest := []) C hκ hκl 42 (k7_scaled false ((zlandd (b) (8388607)).toNat) 1074 925 (-149) ⟨by decide, by decide⟩ (by omega) (by omega) (by omega) (by omega)) dX7_floatOf_39 q2437 q2438 q97 q2439 znX7_scaled (Nat.le_of_ble_eq_true rfl) (Nat.le_of_ble_eq_true rfl) (Nat.le_of_ble_eq_true rfl) (Nat.le_of_ble_eq_true rfl) rfl (Nat.le_of_ble_eq_true rfl) rfl rfl rfl ?_
      refine z_goto C 59 dX7_floatOf_42 (by decide) ?_
      refine z_dstore (lv' := [(0, .long (lI (b))), (2, .int (iI (zlandd (b) (8388607)))), (3, .int (iI (zlandd ((b) / 8388608) (255)))), (4, .double (fX false ((zlandd (b) (8388607)).toNat * 2 ^ 925)))]) C 61 [1, 2, 3, 0] dX7_floatOf_59 (by decide) rfl rfl ?_
      refine z_lload_n C 62 0 dX7_floatOf_61 rfl rfl ?_
      refine z_ldc2 (z := 2147483648) C 65 dX7_floatOf_62 q2443 (by decide) rfl ?_
      refine z_land C 66 dX7_floatOf_65 rfl ?_
      refine z_lconst (x := 0) C 67 dX7_floatOf_66 rfl rfl ?_
      refine z_lcmp C 68 dX7_floatOf_67 (inL_zlandd _ _) ⟨by decide, by decide⟩ rfl ?_
      refine z_ifC_eq C 77 71 dX7_floatOf_68 (by decide) rfl (fun c4 => ?_) (fun c4 => ?_)
      · skip
        refine z_dload C 79 3 dX7_floatOf_77 rfl rfl ?_
        refine z_d2fE (v := gX false ((zlandd (b) (8388607)).toNat * 2 ^ 0)) C 80 dX7_floatOf_79 (gX_d2f (by omega) rfl (by omega)) (gX_pv (by omega) (by omega)) rfl ?_
        exact z_fret C dX7_floatOf_80 (Nat.le_of_ble_eq_true rfl) (Nat.le_of_ble_eq_true rfl) ⟨congrArg some (by refine congrArg Value.float ?_; rw [← U32_sub hr (by omega), show decide (b < 0) = false from by by_cases h : b < 0 <;> simp [h] at hg ⊢ <;> omega, hm]), rfl⟩
      · skip
        refine z_dload C 73 3 dX7_floatOf_71 rfl rfl ?_
        refine z_dnegE (v := fX true ((zlandd (b) (8388607)).toNat * 2 ^ 925)) C 74 dX7_floatOf_73 (fX_ng (by omega) (by omega)) rfl ?_
        refine z_goto C 79 dX7_floatOf_74 (by decide) ?_
        refine z_d2fE (v := gX true ((zlandd (b) (8388607)).toNat * 2 ^ 0)) C 80 dX7_floatOf_79 (gX_d2f (by omega) rfl (by omega)) (gX_pv (by omega) (by omega)) rfl ?_
        exact z_fret C dX7_floatOf_80 (Nat.le_of_ble_eq_true rfl) (Nat.le_of_ble_eq_true rfl) ⟨congrArg some (by refine congrArg Value.float ?_; rw [← U32_sub hr (by omega), show decide (b < 0) = true from by by_cases h : b < 0 <;> simp [h] at hg ⊢ <;> omega, hm]), rfl⟩
  · skip
    refine z_ldc2d C 27 dX7_floatOf_24 q2436 rfl ?_
    refine z_goto C 59 dX7_floatOf_27 (by decide) ?_
    refine z_dstore (lv' := [(0, .long (lI (b))), (2, .int (iI (zlandd (b) (8388607)))), (3, .int (iI (zlandd ((b) / 8388608) (255)))), (4, .double (9218868437227405312))]) C 61 [1, 2, 3, 0] dX7_floatOf_59 (by decide) rfl rfl ?_
    refine z_lload_n C 62 0 dX7_floatOf_61 rfl rfl ?_
    refine z_ldc2 (z := 2147483648) C 65 dX7_floatOf_62 q2443 (by decide) rfl ?_
    refine z_land C 66 dX7_floatOf_65 rfl ?_
    refine z_lconst (x := 0) C 67 dX7_floatOf_66 rfl rfl ?_
    refine z_lcmp C 68 dX7_floatOf_67 (inL_zlandd _ _) ⟨by decide, by decide⟩ rfl ?_
    refine z_ifC_eq C 77 71 dX7_floatOf_68 (by decide) rfl (fun c5 => ?_) (fun c5 => ?_)
    · skip
      refine z_dload C 79 3 dX7_floatOf_77 rfl rfl ?_
      refine z_d2fE (v := infG false) C 80 dX7_floatOf_79 (d2f_inf false) (infG_vg false) rfl ?_
      exact z_fret C dX7_floatOf_80 (Nat.le_of_ble_eq_true rfl) (Nat.le_of_ble_eq_true rfl) ⟨congrArg some (by refine congrArg Value.float ?_; rw [← U32_inf hr (by omega) hb, show decide (b < 0) = false from by by_cases h : b < 0 <;> simp [h] at hg ⊢ <;> omega]), rfl⟩
    · skip
      refine z_dload C 73 3 dX7_floatOf_71 rfl rfl ?_
      refine z_dnegE (v := infB true) C 74 dX7_floatOf_73 (by decide +kernel) rfl ?_
      refine z_goto C 79 dX7_floatOf_74 (by decide) ?_
      refine z_d2fE (v := infG true) C 80 dX7_floatOf_79 (d2f_inf true) (infG_vg true) rfl ?_
      exact z_fret C dX7_floatOf_80 (Nat.le_of_ble_eq_true rfl) (Nat.le_of_ble_eq_true rfl) ⟨congrArg some (by refine congrArg Value.float ?_; rw [← U32_inf hr (by omega) hb, show decide (b < 0) = true from by by_cases h : b < 0 <;> simp [h] at hg ⊢ <;> omega]), rfl⟩
