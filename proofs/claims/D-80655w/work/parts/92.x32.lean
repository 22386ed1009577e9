/-! ===== floats: their bits, told by natives ===== -/
theorem snl2d {x : Int64} (h : vf_n64 x.toUInt64) : vn_snl2d x = false := by
  unfold vn_snl2d
  have h1 : ¬ (x.toUInt64 &&& 0x7fffffffffffffff > 0x7ff0000000000000) := UInt64.not_lt.mpr h
  simp [h1]
theorem sni2f {x : Int32} (h : vf_n32 x.toUInt32) : vn_sni2f x = false := by
  unfold vn_sni2f
  have h1 : ¬ (x.toUInt32 &&& 0x7fffffff > 0x7f800000) := UInt32.not_lt.mpr h
  simp [h1]
theorem ord_self {v : FP.Core.Datum} (h : v ≠ .nan) : FP.Core.order v v = some (compare (0 : Int) 0) := by
  have e : ∀ a : Int, compare a a = compare (0 : Int) 0 := fun a => by simp [compare, compareOfLessAndEq]
  cases v with
  | nan => exact absurd rfl h
  | inf s => exact congrArg some (e _)
  | fin s c q => exact congrArg some (e _)
theorem dself {x : UInt64} (h : vf_n64 x) : FP.dcmp x x = some (compare (0 : Int) 0) := by
  have h1 := fnan h
  exact ord_self (v := v64 x) (of_decide_eq_false h1)
theorem gnan {x : UInt32} (h : vf_n32 x) : v32 x ≠ .nan := by
  obtain ⟨s, n, hr, rfl⟩ := gZ_of h
  rcases hr with hr | hr
  · unfold gZ; rw [if_pos hr]; cases s <;> decide +kernel
  · obtain ⟨c, q, h1, h2, h3⟩ := gN_v (gX_N (s := s) hr)
    rw [gZ_X hr, h2]; simp
theorem fself {x : UInt32} (h : vf_n32 x) : FP.fcmp x x = some (compare (0 : Int) 0) := ord_self (v := v32 x) (gnan h)
theorem lI_sI (x : UInt64) : x.toInt64 = lI (sI x) := (Int64.ofInt_toInt _).symm
theorem iI_sJ (x : UInt32) : x.toInt32 = iI (sJ x) := (Int32.ofInt_toInt _).symm
theorem sI_64 (b : Int) : (U64 b).toInt64 = lI b := by show (lI b).toUInt64.toInt64 = lI b; rfl
theorem sJ_32 (b : Int) : (U32 b).toInt32 = iI b := by show (iI b).toUInt32.toInt32 = iI b; rfl
theorem z_startF {θ : zTh} {l : Launch} {y : MethodName} {cc : ByteArray} {nL : Nat} {ret : Option FieldType} {rm : Room} {As : List Value} {Pic : Heap → Prop} {P : Option Value → (Heap → Prop) → Prop} {own nm : String} (hy : plainFor y = true) (ho : y.cls = own) (hnm : y.name = nm) (hn : (lg_sl As).length ≤ nL)
    (body : ∀ κ : zK, κ.1 = θ → κ.2.2.1 = l → ZC κ own nm cc nL ret rm P → Z κ Pic 0 0 0 (lv_args 0 As) []) : ZM θ l y cc nL ret rm As Pic P := by
  unfold ZM Met
  refine MetFree.of_bodySF (code := cc) (maxLocals := nL) (ret := ret) hy ?_ ?_
  · intro args s m h hn
    obtain ⟨meth, c, h1, h2, h3, h4, h5, h6, -, -⟩ := Cond.code_spec hn (atoms_spec (ws := ws_ y cc nL ret) h _ List.mem_cons_self)
    exact ⟨meth, c, h1, h2, h3, h4, h5, h6⟩
  · intro p e s m args below meth c s₁ B hml hv _
    have hh0 : s₁.heap = s.heap := by rw [B.state]; rfl
    obtain ⟨rfl, hP, hU⟩ := hv
    have hts := atoms_spec (ws := ws_ y cc nL ret) B.pre
    have hts : ∀ w ∈ lw_all, w.before _ s = true := fun w h => hts w (List.mem_cons_of_mem _ h)
    have hown : s.vm.findClass y.cls = some m.cls := findClass_of_methodNamed B.named
    rw [ho] at hown
    have hl := lv_entry As (n := nL) hn
    rw [lg_entry_eq]
    have hb := body (θ, p, l, e, rm, s, m, As.toArray, below, meth, c, MQ below (zQc θ P) As.toArray s rm.cells rm.slots (zA θ)) rfl rfl ⟨B.exec, B.bytes, hml, hown, hts, hU, B.notSynchronized, B.returns, by rw [← hnm]; exact (name_of_methodNamed B.named B.method).1, rfl, fun _ _ _ _ _ h => h⟩ s.heap [] _ hP va_S.rf (by rw [hml]; exact hl)
    obtain ⟨t, a1, o, b1, b2, b3⟩ := hb s₁ hh0 (Stand.of_body B)
    exact ⟨t, o, a1, b1, b2, ⟨b3.1, b3.2⟩⟩
set_option maxRecDepth 100000 in
theorem pf_fib : plainFor yJ15_floatToIntBits = true := by decide +kernel
set_option maxRecDepth 100000 in
theorem pf_fnan : plainFor yJ15_isNaN = true := by decide +kernel
section ZFB
variable {κ : zK} {own nm : String} {cc : ByteArray} {nL : Nat} {ret : Option FieldType} {rm : Room} {P : Option Value → (Heap → Prop) → Prop} {Pic : Heap → Prop} {n k pc index : Nat} {lv : List (Nat × Value)} {st rest : List Value}
theorem z_fcmp (C : ZC κ own nm cc nL ret rm P) {x y : UInt32} {a b : Int} {op : CmpOp} (q : Nat) (d : decode cc pc = .ok (.fcmp op, 1)) (hc : FP.fcmp x y = some (compare a b)) (hq : pc + 1 = q) (kk : Z κ Pic n k q lv (.int (iI (zcmp a b)) :: rest)) : Z κ Pic n k pc lv (.float y :: .float x :: rest) := by
  obtain ⟨θ, p, l, e, R, s, m, args, below, meth, c, Q⟩ := κ
  obtain ⟨hx, hb, hml, hown, hts, hU, hlk, hret, hnm, hR, hQ⟩ := C
  subst hq
  intro H locs ls hP hS hl
  refine lv_fcmp hx hb d ?_
  rw [hc, zcmpI]
  exact kk H locs ls hP hS hl
theorem z_bits_d2l (C : ZC κ own nm cc nL ret rm P) {x : UInt64} (q : Nat) (hl : Cond.methodLink own index (⟨"java/lang/Double", "doubleToRawLongBits", "(D)J"⟩ : MethodName) ∈ lw_all) (d : decode cc pc = .ok (.invokestatic index, 3)) (hf : 1 ≤ rm.frames) (hlo : 40 ≤ rm.locals) (hsz : (rest.map fun v => v.category).sum ≤ 8) (hq : pc + 3 = q) (kk : Z κ Pic n k q lv (.long x.toInt64 :: rest)) : Z κ Pic n k pc lv (.double x :: rest) := by
  obtain ⟨θ, p, l, e, R, s, m, args, below, meth, c, Q⟩ := κ
  obtain ⟨hx, hb, hml, hown, hts, hU, hlk, hret, hnm, hR, hQ⟩ := C
  subst hq; subst hR
  intro H locs ls hP hS hl9
  exact vn_d2l hx hb (hl9.1.symm) hown (hts _ hl) (hts _ q1568) (hts _ q1567) (hts _ q134) hf (by omega) d (kk H locs ls hP hS hl9)
theorem z_bits_l2d (C : ZC κ own nm cc nL ret rm P) {x : Int64} (q : Nat) (hv : vn_snl2d x = false) (hl : Cond.methodLink own index (⟨"java/lang/Double", "longBitsToDouble", "(J)D"⟩ : MethodName) ∈ lw_all) (d : decode cc pc = .ok (.invokestatic index, 3)) (hf : 1 ≤ rm.frames) (hlo : 40 ≤ rm.locals) (hsz : (rest.map fun v => v.category).sum ≤ 8) (hq : pc + 3 = q) (kk : Z κ Pic n k q lv (.double x.toUInt64 :: rest)) : Z κ Pic n k pc lv (.long x :: rest) := by
  obtain ⟨θ, p, l, e, R, s, m, args, below, meth, c, Q⟩ := κ
  obtain ⟨hx, hb, hml, hown, hts, hU, hlk, hret, hnm, hR, hQ⟩ := C
  subst hq; subst hR
  intro H locs ls hP hS hl9
  exact vn_l2d hx hb (hl9.1.symm) hown (hts _ hl) (hts _ q1623) (hts _ q1622) (hts _ q134) hv hf (by omega) d (kk H locs ls hP hS hl9)
theorem z_bits_f2i (C : ZC κ own nm cc nL ret rm P) {x : UInt32} (q : Nat) (hl : Cond.methodLink own index (⟨"java/lang/Float", "floatToRawIntBits", "(F)I"⟩ : MethodName) ∈ lw_all) (d : decode cc pc = .ok (.invokestatic index, 3)) (hf : 1 ≤ rm.frames) (hlo : 40 ≤ rm.locals) (hsz : (rest.map fun v => v.category).sum ≤ 8) (hq : pc + 3 = q) (kk : Z κ Pic n k q lv (.int x.toInt32 :: rest)) : Z κ Pic n k pc lv (.float x :: rest) := by
  obtain ⟨θ, p, l, e, R, s, m, args, below, meth, c, Q⟩ := κ
  obtain ⟨hx, hb, hml, hown, hts, hU, hlk, hret, hnm, hR, hQ⟩ := C
  subst hq; subst hR
  intro H locs ls hP hS hl9
  exact vn_f2i hx hb (hl9.1.symm) hown (hts _ hl) (hts _ q1555) (hts _ q1554) (hts _ q133) hf (by omega) d (kk H locs ls hP hS hl9)
theorem z_bits_i2f (C : ZC κ own nm cc nL ret rm P) {x : Int32} (q : Nat) (hv : vn_sni2f x = false) (hl : Cond.methodLink own index (⟨"java/lang/Float", "intBitsToFloat", "(I)F"⟩ : MethodName) ∈ lw_all) (d : decode cc pc = .ok (.invokestatic index, 3)) (hf : 1 ≤ rm.frames) (hlo : 40 ≤ rm.locals) (hsz : (rest.map fun v => v.category).sum ≤ 8) (hq : pc + 3 = q) (kk : Z κ Pic n k q lv (.float x.toUInt32 :: rest)) : Z κ Pic n k pc lv (.int x :: rest) := by
  obtain ⟨θ, p, l, e, R, s, m, args, below, meth, c, Q⟩ := κ
  obtain ⟨hx, hb, hml, hown, hts, hU, hlk, hret, hnm, hR, hQ⟩ := C
  subst hq; subst hR
  intro H locs ls hP hS hl9
  exact vn_i2f hx hb (hl9.1.symm) hown (hts _ hl) (hts _ q1613) (hts _ q1612) (hts _ q133) hv hf (by omega) d (kk H locs ls hP hS hl9)
end ZFB
/-! ===== cells ===== -/
def zCe (k b : Int) (t : Option Nat) : va_E := .inr (6, [.int (iI k), .long (lI b), va_rf t])
def clK (t : Int) : Int := if t < 0 then 4 else if 8 ≤ t then 8 else t
def rlD (k b : Int) : UInt64 := if k = 7 then U64 b else if k = 6 then FP.f2d (U32 b) else FP.l2d (lI b)
def sgF (k b : Int) : UInt32 := if k = 6 then U32 b else FP.l2f (lI b)
/-- a number that stands for one -/
def nmOk (k b : Int) : Prop := (k = 7 → zlandd b 9223372036854775807 ≤ 9218868437227405312) ∧ (k = 6 → inR b ∧ zlandd b 2147483647 ≤ 2139095040)
theorem rlD_vf {k b : Int} (h : nmOk k b) : vf_n64 (rlD k b) := by
  unfold rlD
  split
  · exact U64_vf (h.1 (by assumption))
  · split
    · exact f2d_vf (U32_vg (h.2 (by assumption)).2)
    · exact l2d_vf _
theorem sgF_vf {k b : Int} (h : nmOk k b) : vf_n32 (sgF k b) := by
  unfold sgF
  split
  · exact U32_vg (h.2 (by assumption)).2
  · exact l2f_vf _
theorem wd_7 {k b : Int} (h : k < 7) : sI (rlD k b) = wdL b k 7 := by
  unfold rlD wdL
  rw [if_neg (show ¬ k = 7 by omega), if_neg (show ¬ (k = 7 ∨ 8 ≤ k ∨ (7 : Int) < 6) by omega)]
  by_cases h6 : k = 6
  · rw [if_pos h6, if_pos h6]
  · rw [if_neg h6, if_neg h6, if_neg (show ¬ (7 : Int) = 6 by decide)]
theorem wd_6 {k b : Int} (h : k < 6) : sJ (sgF k b) = wdL b k 6 := by
  unfold sgF wdL
  rw [if_neg (by omega), if_neg (by omega), if_neg (by omega), if_pos rfl]
theorem wd_s {k b t : Int} (h : ¬ (t = 7 ∧ k < 7)) (h2 : ¬ (t = 6 ∧ k < 6)) (ht : t ≤ 7) (hk : k ≤ t) : wdL b k t = b := by
  unfold wdL
  exact if_pos (by omega)
theorem iI_i64 {z : Int} (h : inR z) : (iI z).toInt64 = lI z := by
  show Int64.ofInt (iI z).toInt = Int64.ofInt z
  rw [iI_toInt h]

set_option maxRecDepth 100000 in
theorem kD_isNaN {l : Launch} {θ : zTh} {Pic : Heap → Prop} (hT : zTb θ) (x : UInt64)  (hv : vf_n64 x) : ZM θ l yJ16_isNaN cJ16_isNaN 2 (some .boolean) ⟨0, 0, 0, 0⟩ [.double (x)] (Pic) (zFn (some (.int (iI (bI (false))))) (Pic)) := by
  refine z_start (own := RJ16) (nm := "isNaN") pnJ16 rfl rfl (Nat.le_of_ble_eq_true rfl) ?_
  intro κ hκ hκl C
  change Z κ (Pic) 0 0 0 [(0, .double (x))] []
  refine z_dload_n C 1 0 dJ16_isNaN_0 rfl rfl ?_
  refine z_dload_n C 2 0 dJ16_isNaN_1 rfl rfl ?_
  refine z_dcmp (a := 0) (b := 0) C 3 dJ16_isNaN_2 (dself hv) rfl ?_
  refine z_ifC_eq C 10 6 dJ16_isNaN_3 (by decide) rfl (fun c1 => ?_) (fun c1 => ?_)
  · skip
    refine z_iconst C 11 dJ16_isNaN_10 rfl ?_
    refine z_as (st' := [.int (iI (bI (false)))]) rfl rfl rfl ?_
    exact z_iret C dJ16_isNaN_11 (bI_nar _) (Nat.le_of_ble_eq_true rfl) (Nat.le_of_ble_eq_true rfl) ⟨congrArg (fun b => some (Value.int (iI (bI b)))) ((by first | rfl | (exfalso; omega))), rfl⟩
  · skip
    refine z_iconst C 7 dJ16_isNaN_6 rfl ?_
    refine z_goto C 11 dJ16_isNaN_7 (by decide) ?_
    refine z_as (st' := [.int (iI (bI (true)))]) rfl rfl rfl ?_
    exact z_iret C dJ16_isNaN_11 (bI_nar _) (Nat.le_of_ble_eq_true rfl) (Nat.le_of_ble_eq_true rfl) ⟨congrArg (fun b => some (Value.int (iI (bI b)))) ((by first | rfl | (exfalso; omega))), rfl⟩
set_option maxRecDepth 100000 in
theorem kF_isNaN {l : Launch} {θ : zTh} {Pic : Heap → Prop} (hT : zTb θ) (x : UInt32)  (hv : vf_n32 x) : ZM θ l yJ15_isNaN cJ15_isNaN 1 (some .boolean) ⟨0, 0, 0, 0⟩ [.float (x)] (Pic) (zFn (some (.int (iI (bI (false))))) (Pic)) := by
  refine z_startF (own := RJ15) (nm := "isNaN") pf_fnan rfl rfl (Nat.le_of_ble_eq_true rfl) ?_
  intro κ hκ hκl C
  change Z κ (Pic) 0 0 0 [(0, .float (x))] []
  refine z_fload_n C 1 0 dJ15_isNaN_0 rfl rfl ?_
  refine z_fload_n C 2 0 dJ15_isNaN_1 rfl rfl ?_
  refine z_fcmp (a := 0) (b := 0) C 3 dJ15_isNaN_2 (fself hv) rfl ?_
  refine z_ifC_eq C 10 6 dJ15_isNaN_3 (by decide) rfl (fun c1 => ?_) (fun c1 => ?_)
  · skip
    refine z_iconst C 11 dJ15_isNaN_10 rfl ?_
    refine z_as (st' := [.int (iI (bI (false)))]) rfl rfl rfl ?_
    exact z_iret C dJ15_isNaN_11 (bI_nar _) (Nat.le_of_ble_eq_true rfl) (Nat.le_of_ble_eq_true rfl) ⟨congrArg (fun b => some (Value.int (iI (bI b)))) ((by first | rfl | (exfalso; omega))), rfl⟩
  · skip
    refine z_iconst C 7 dJ15_isNaN_6 rfl ?_
    refine z_goto C 11 dJ15_isNaN_7 (by decide) ?_
    refine z_as (st' := [.int (iI (bI (true)))]) rfl rfl rfl ?_
    exact z_iret C dJ15_isNaN_11 (bI_nar _) (Nat.le_of_ble_eq_true rfl) (Nat.le_of_ble_eq_true rfl) ⟨congrArg (fun b => some (Value.int (iI (bI b)))) ((by first | rfl | (exfalso; omega))), rfl⟩
set_option maxRecDepth 100000 in
theorem kD_bits {l : Launch} {θ : zTh} {Pic : Heap → Prop} (hT : zTb θ) (x : UInt64)  (hv : vf_n64 x) : ZM θ l yJ16_doubleToLongBits cJ16_doubleToLongBits 2 (some .long) ⟨1, 0, 0, 40⟩ [.double (x)] (Pic) (zFn (some (.long (x.toInt64))) (Pic)) := by
  refine z_start (own := RJ16) (nm := "doubleToLongBits") pnJ16 rfl rfl (Nat.le_of_ble_eq_true rfl) ?_
  intro κ hκ hκl C
  change Z κ (Pic) 0 0 0 [(0, .double (x))] []
  refine z_dload_n C 1 0 dJ16_doubleToLongBits_0 rfl rfl ?_
  refine z_callS (As := [.double (x)]) (rest := []) C hκ hκl 4 (kD_isNaN hT (x) hv) dJ16_doubleToLongBits_1 q1563 q1564 q134 q1565 znJ16_isNaN (Nat.le_of_ble_eq_true rfl) (Nat.le_of_ble_eq_true rfl) (Nat.le_of_ble_eq_true rfl) (Nat.le_of_ble_eq_true rfl) rfl (Nat.le_of_ble_eq_true rfl) rfl (fun v9 Q9 h9 => ?_)
  obtain ⟨rfl, rfl⟩ := h9
  refine z_as (st' := [.int (iI (bI (false)))]) rfl rfl rfl ?_
  refine z_ifB_ne C 12 7 dJ16_doubleToLongBits_4 (by decide) rfl (fun c1 => absurd c1 (by decide)) (fun c1 => ?_)
  refine z_dload_n C 8 0 dJ16_doubleToLongBits_7 rfl rfl ?_
  refine z_bits_d2l C 11  q1566 dJ16_doubleToLongBits_8 (Nat.le_of_ble_eq_true rfl) (Nat.le_of_ble_eq_true rfl) (Nat.le_of_ble_eq_true rfl) rfl ?_
  refine z_as (st' := [.long ((x).toInt64)]) rfl rfl rfl ?_
  exact z_lret C dJ16_doubleToLongBits_11 (Nat.le_of_ble_eq_true rfl) (Nat.le_of_ble_eq_true rfl) ⟨congrArg some (rfl), rfl⟩
set_option maxRecDepth 100000 in
theorem kF_bits {l : Launch} {θ : zTh} {Pic : Heap → Prop} (hT : zTb θ) (x : UInt32)  (hv : vf_n32 x) : ZM θ l yJ15_floatToIntBits cJ15_floatToIntBits 1 (some .int) ⟨1, 0, 0, 40⟩ [.float (x)] (Pic) (zFn (some (.int (x.toInt32))) (Pic)) := by
  refine z_startF (own := RJ15) (nm := "floatToIntBits") pf_fib rfl rfl (Nat.le_of_ble_eq_true rfl) ?_
  intro κ hκ hκl C
  change Z κ (Pic) 0 0 0 [(0, .float (x))] []
  refine z_fload_n C 1 0 dJ15_floatToIntBits_0 rfl rfl ?_
  refine z_callS (As := [.float (x)]) (rest := []) C hκ hκl 4 (kF_isNaN hT (x) hv) dJ15_floatToIntBits_1 q1550 q1551 q133 q1552 znJ15_isNaN (Nat.le_of_ble_eq_true rfl) (Nat.le_of_ble_eq_true rfl) (Nat.le_of_ble_eq_true rfl) (Nat.le_of_ble_eq_true rfl) rfl (Nat.le_of_ble_eq_true rfl) rfl (fun v9 Q9 h9 => ?_)
  obtain ⟨rfl, rfl⟩ := h9
  refine z_as (st' := [.int (iI (bI (false)))]) rfl rfl rfl ?_
  refine z_ifB_ne C 12 7 dJ15_floatToIntBits_4 (by decide) rfl (fun c1 => absurd c1 (by decide)) (fun c1 => ?_)
  refine z_fload_n C 8 0 dJ15_floatToIntBits_7 rfl rfl ?_
  refine z_bits_f2i C 11  q1553 dJ15_floatToIntBits_8 (Nat.le_of_ble_eq_true rfl) (Nat.le_of_ble_eq_true rfl) (Nat.le_of_ble_eq_true rfl) rfl ?_
  refine z_as (st' := [.int ((x).toInt32)]) rfl rfl rfl ?_
  exact z_iret C dJ15_floatToIntBits_11 rfl (Nat.le_of_ble_eq_true rfl) (Nat.le_of_ble_eq_true rfl) ⟨congrArg some (rfl), rfl⟩
set_option maxRecDepth 100000 in
theorem k6_become {l : Launch} {θ : zTh} {M N : zMap} (hT : zTb θ) (a : Nat) (k : Int) (b : Int) (t : Option Nat) (a2 : Nat) (k2 : Int) (b2 : Int) (t2 : Option Nat)  (hM : M a = some (.inr (6, [.int (iI k), .long (lI b), va_rf t]))) (hM2 : M a2 = some (.inr (6, [.int (iI k2), .long (lI b2), va_rf t2]))) (hne : a ≠ a2) : ZM θ l yX6_become cX6_become 2 none ⟨0, 0, 0, 0⟩ [.ref (a), .ref (a2)] (zP θ M N) (zFn none (zP θ (zup M a (.inr (6, [.int (iI (k2)), .long (lI (b2)), va_rf (t2)]))) N)) := by
  refine z_start (own := RX6) (nm := "become") pnX6 rfl rfl (Nat.le_of_ble_eq_true rfl) ?_
  intro κ hκ hκl C
  change Z κ (zP θ M N) 0 0 0 [(0, .ref (a)), (1, .ref (a2))] []
  refine z_aload_n C 1 0 dX6_become_0 rfl rfl ?_
  refine z_aload_n C 2 1 dX6_become_1 rfl rfl ?_
  refine z_getf C hκ (v := .int (iI (k2))) 5 0 zk_X6 hM2 (by decide) q246 (Or.inl rfl) rfl dX6_become_2 rfl ?_
  refine z_putf (fs' := [.int (iI (k2)), .long (lI (b)), va_rf (t)]) C hκ 8 0 zk_X6 hM (by decide) q246 (Or.inl rfl) rfl rfl rfl (Nat.le_of_ble_eq_true rfl) rfl dX6_become_5 rfl ?_
  obtain ⟨M1, eM1⟩ : ∃ z9 : zMap, zup M a (.inr (6, [.int (iI (k2)), .long (lI (b)), va_rf (t)]) : va_E) = z9 := ⟨_, rfl⟩
  rw [eM1]
  have o1 : M1 a2 = some (.inr (6, [.int (iI (k2)), .long (lI (b2)), va_rf (t2)])) := eM1 ▸ (zup_n (fun z9 => hne z9.symm)).trans hM2
  have o2 : M1 a = some (.inr (6, [.int (iI (k2)), .long (lI (b)), va_rf (t)])) := eM1 ▸ zup_s
  refine z_aload_n C 9 0 dX6_become_8 rfl rfl ?_
  refine z_aload_n C 10 1 dX6_become_9 rfl rfl ?_
  refine z_getf C hκ (v := .long (lI (b2))) 13 1 zk_X6 o1 (by decide) q248 (Or.inl rfl) rfl dX6_become_10 rfl ?_
  refine z_putf (fs' := [.int (iI (k2)), .long (lI (b2)), va_rf (t)]) C hκ 16 1 zk_X6 o2 (by decide) q248 (Or.inl rfl) rfl rfl rfl (Nat.le_of_ble_eq_true rfl) rfl dX6_become_13 rfl ?_
  obtain ⟨M2, eM2⟩ : ∃ z9 : zMap, zup M1 a (.inr (6, [.int (iI (k2)), .long (lI (b2)), va_rf (t)]) : va_E) = z9 := ⟨_, rfl⟩
  rw [eM2]
  have o3 : M2 a2 = some (.inr (6, [.int (iI (k2)), .long (lI (b2)), va_rf (t2)])) := eM2 ▸ (zup_n (fun z9 => hne z9.symm)).trans o1
  have o4 : M2 a = some (.inr (6, [.int (iI (k2)), .long (lI (b2)), va_rf (t)])) := eM2 ▸ zup_s
  refine z_aload_n C 17 0 dX6_become_16 rfl rfl ?_
  refine z_aload_n C 18 1 dX6_become_17 rfl rfl ?_
  refine z_getf C hκ (v := va_rf (t2)) 21 2 zk_X6 o3 (by decide) q252 (Or.inl rfl) rfl dX6_become_18 rfl ?_
  refine z_putf (fs' := [.int (iI (k2)), .long (lI (b2)), va_rf (t2)]) C hκ 24 2 zk_X6 o4 (by decide) q252 (Or.inl rfl) rfl (by cases (t2) <;> rfl) (by cases (t2) <;> rfl) (Nat.le_of_ble_eq_true rfl) rfl dX6_become_21 rfl ?_
  obtain ⟨M3, eM3⟩ : ∃ z9 : zMap, zup M2 a (.inr (6, [.int (iI (k2)), .long (lI (b2)), va_rf (t2)]) : va_E) = z9 := ⟨_, rfl⟩
  rw [eM3]
  have o5 : M3 a2 = some (.inr (6, [.int (iI (k2)), .long (lI (b2)), va_rf (t2)])) := eM3 ▸ (zup_n (fun z9 => hne z9.symm)).trans o3
  have o6 : M3 a = some (.inr (6, [.int (iI (k2)), .long (lI (b2)), va_rf (t2)])) := eM3 ▸ zup_s
  exact z_vret C dX6_become_24 (Nat.le_of_ble_eq_true rfl) (Nat.le_of_ble_eq_true rfl) ⟨rfl, (congrArg (fun M9 => zP θ M9 N) (by rw [← eM3, ← eM2, ← eM1] <;> simp only [zup_up] <;> rfl))⟩
