/-! ===== bodies ===== -/
/-- the parameter of a number; -1 -/
def xpI (w : mW) (m i : Int) : Int := if ipB w m i then w 19 (3 * m + i) else -1
theorem xpI_r {w : mW} (hS : mS w) {m i : Int} (h0 : 0 ≤ m) (h1 : m < w 11 0) : -1 ≤ xpI w m i ∧ xpI w m i < w 0 0 := by
  have hB := hS.B.1
  unfold xpI ipB
  split
  · rename_i h; have h := of_decide_eq_true h; have := (hS.M h0 h1).2.2.2 i h.1 h.2; omega
  · omega
theorem xpI_y {w : mW} {m i : Int} (h : ipB w m i = true) : xpI w m i = w 19 (3 * m + i) := if_pos h
theorem xpI_n {w : mW} {m i : Int} (h : 0 ≤ xpI w m i) : ipB w m i = true := by
  unfold xpI at h; split at h
  · assumption
  · omega
theorem xpI_i {w : mW} {m i : Int} (hS : mS w) (h0 : 0 ≤ m) (h1 : m < w 11 0) : ipB w m i = decide (0 ≤ xpI w m i) := by
  unfold xpI
  by_cases h : ipB w m i = true
  · rw [if_pos h, h]
    have h2 := of_decide_eq_true h
    have := (hS.M h0 h1).2.2.2 i h2.1 h2.2
    exact (decide_eq_true this.1).symm
  · rw [if_neg h, Bool.eq_false_iff.mpr h]; rfl
def xfI (w : mW) (x : Int) : Int := if mbB w x then x else -1
theorem xfI_r {w : mW} {x : Int} (h : 0 ≤ w 11 0) : -1 ≤ xfI w x ∧ xfI w x < w 11 0 := by
  unfold xfI mbB; split
  · rename_i h2; have := of_decide_eq_true h2; omega
  · omega
theorem xfI_n {w : mW} {x : Int} (h : xfI w x < 0) : mbB w x = false := by
  unfold xfI at h; split at h
  · rename_i h2; have h3 : 0 ≤ x ∧ x < w 11 0 := of_decide_eq_true h2; omega
  · rename_i h2; exact Bool.eq_false_iff.mpr h2
theorem xfI_y {w : mW} {x : Int} (h : 0 ≤ xfI w x) : xfI w x = x ∧ 0 ≤ x ∧ x < w 11 0 := by
  unfold xfI at *; split at h
  · rename_i h2; rw [if_pos h2]; exact ⟨rfl, of_decide_eq_true h2⟩
  · omega
def xMx (a b : Int) : Int := if a ≥ b then a else b
theorem z_mmax {κ : zK} {own nm : String} {cc : ByteArray} {nL : Nat} {ret : Option FieldType} {rm : Room} {P : Option Value → (Heap → Prop) → Prop} {Pic : Heap → Prop} {n k pc index : Nat} {lv : List (Nat × Value)} {rest : List Value} (C : ZC κ own nm cc nL ret rm P) {x y : Int} (q : Nat) (d : decode cc pc = .ok (.invokestatic index, 3)) (hlink : Cond.methodLink own index Lib.Math.max.name ∈ lw_all) (hstat : Cond.static Lib.Math.max.name ∈ lw_all) (hini : Cond.initialized "java/lang/Math" ∈ lw_all) (hcode : Cond.code Lib.Math.max.name Lib.Math.max.code 2 (some .int) ∈ lw_all) (hf : 1 ≤ rm.frames) (hlo : (rest.map fun v => v.category).sum + 13 ≤ rm.locals) (hce : n ≤ rm.cells) (hsl : k ≤ rm.slots) (hx : inR x) (hy : inR y) (hq : pc + 3 = q) (kk : Z κ Pic n k q lv (.int (iI (xMx x y)) :: rest)) : Z κ Pic n k pc lv (.int (iI y) :: .int (iI x) :: rest) := by
  have e : (if iI x < iI y then iI y else iI x) = iI (xMx x y) := by
    unfold xMx
    by_cases h : x < y
    · rw [if_pos (by rw [Int32.lt_iff_toInt_lt, iI_toInt hx, iI_toInt hy]; exact h), if_neg (by omega)]
    · rw [if_neg (by rw [Int32.lt_iff_toInt_lt, iI_toInt hx, iI_toInt hy]; exact h), if_pos (by omega)]
  subst hq
  obtain ⟨θ', p, l, e', R, s, m, args, below, meth, c, Q⟩ := κ
  obtain ⟨hx', hb, hml, hown, hts, hU, hlk, hret, hnm, rfl, hQ⟩ := C
  intro H locs ls hP hS hl
  refine va_mmax hx' hb hl.1.symm hown (hts _ hlink) (hts _ hstat) (hts _ hini) (hts _ hcode) hf hlo hce hsl d ?_
  rw [e]
  exact kk H locs ls hP hS hl

set_option maxRecDepth 100000 in
theorem k10_param_12 {l : Launch} {θ : zTh} {σ : xA} {w : mW} {M N : zMap} (hX : xM θ σ w (xL w) M) (hs : xS w) (hw : mWF w) (hT : zTb θ) (b : Nat) (m : Int) (x : Int) (i : Int) (r_i : inR i) (hb : M b = some (.inr (12, [.ref (σ 20 (m)), .ref (σ 0 (0)), .int (iI (x)), .ref (σ 0 (0))]))) (hm : 0 ≤ m ∧ m < w 11 0) (r_x : inR x) : ZM θ l yX10_param cX10_param 2 (some (.object "ReflectMirror$Type")) ⟨1, 0, 0, 25⟩ [.ref (b), .int (iI (i))] (zP θ M N) (zFn (some (va_rf (xo σ 10 (xpI w m i)))) (zP θ M N)) := by
  refine z_start (own := RX10) (nm := "param") pnX10 rfl rfl (Nat.le_of_ble_eq_true rfl) ?_
  intro κ hκ hκl C
  change Z κ (zP θ M N) 0 0 0 [(0, .ref (b)), (1, .int (iI (i)))] []
  have hS := hs.S
  have hB := hS.B
  obtain ⟨hB1, hB2, hB3, hB4, hB5, hB6⟩ := hS.B
  have hC := hS.C
  obtain ⟨h81, h82⟩ := hs.r8
  obtain ⟨f1a, f1b, f1c, f1d⟩ := hS.M (show 0 ≤ m by omega) (by omega)
  have hpp := (hS.M hm.1 hm.2).2.2.2 i
  refine z_iload_n C 1 1 dX10_param_0 rfl rfl ?_
  refine z_i2l C 2 dX10_param_1 r_i rfl ?_
  refine z_lconst (x := 0) C 3 dX10_param_2 rfl rfl ?_
  refine z_aload_n C 4 0 dX10_param_3 rfl rfl ?_
  refine z_getf C hκ (v := .ref (σ 20 (m))) 7 0 zk_X12 hb (by decide) q772 (Or.inl rfl) rfl dX10_param_4 rfl ?_
  refine z_getf C hκ (v := .int (iI (w 18 (m)))) 10 7 zk_X9 (hX.mem (by omega) (by omega)) (by decide) q679 (Or.inl rfl) rfl dX10_param_7 rfl ?_
  refine z_iconst C 11 dX10_param_10 rfl ?_
  refine z_isub C 12 dX10_param_11 rfl ?_
  refine z_i2l C 13 dX10_param_12 ⟨by omega, by omega⟩ rfl ?_
  refine z_callSN (As := [.long (lI (i)), .long (lI (0)), .long (lI ((w 18 (m)) - (1)))]) (rest := []) C hκ hκl hT 16 (k0_isIn hT (i) (0) ((w 18 (m)) - (1)) (inR_L r_i) ⟨by decide, by decide⟩ ⟨by omega, by omega⟩) dX10_param_13 q1051 q379 q90 q380 (zNd_of znX0_isIn) (Nat.le_of_ble_eq_true rfl) (Nat.le_of_ble_eq_true rfl) (Nat.le_of_ble_eq_true rfl) (Nat.le_of_ble_eq_true rfl) rfl (Nat.le_of_ble_eq_true rfl) rfl (fun v9 Q9 h9 => ?_)
  obtain ⟨rfl, rfl⟩ := h9
  refine z_as (st' := [.int (iI (bI (decide ((0) ≤ (i) ∧ (i) ≤ ((w 18 (m)) - (1))))))]) rfl rfl rfl ?_
  refine z_ifB_eq C 31 19 dX10_param_16 (by decide) rfl (fun c2 => ?_) (fun c2 => ?_)
  · skip
    have c2b : ¬ (((0) ≤ (i) ∧ (i) ≤ ((w 18 (m)) - (1)))) := of_decide_eq_false c2
    refine z_null C 32 dX10_param_31 rfl ?_
    exact z_aret C dX10_param_32 (Or.inl ⟨_, rfl⟩) (Or.inl rfl) (Nat.le_of_ble_eq_true rfl) (Nat.le_of_ble_eq_true rfl) ⟨congrArg some (by clear C hκ hκl hS hB hB1 hB2 hB3 hB4 hB5 hB6 hC hw hX hs hT h81 h82 f1a f1b f1c f1d; have e9 : ipB w m i = false := (by unfold ipB; simp; omega); unfold xpI; rw [if_neg (by simp [e9]), xo_n (by decide)]; rfl), rfl⟩
  · skip
    have c2b : (((0) ≤ (i) ∧ (i) ≤ ((w 18 (m)) - (1)))) := of_decide_eq_true c2
    refine z_aload_n C 20 0 dX10_param_19 rfl rfl ?_
    refine z_getf C hκ (v := .ref (σ 20 (m))) 23 0 zk_X12 hb (by decide) q772 (Or.inl rfl) rfl dX10_param_20 rfl ?_
    refine z_getf C hκ (v := .ref (σ 21 (m))) 26 6 zk_X9 (hX.mem (by omega) (by omega)) (by decide) q675 (Or.inl rfl) rfl dX10_param_23 rfl ?_
    refine z_iload_n C 27 1 dX10_param_26 rfl rfl ?_
    refine x_apm C hκ 28 hX hs (by omega) (by omega) (by omega) (by omega) dX10_param_27 rfl ?_
    refine z_goto C 32 dX10_param_28 (by decide) ?_
    exact z_aret C dX10_param_32 (Or.inl ⟨_, rfl⟩) (Or.inr ⟨_, rfl⟩) (Nat.le_of_ble_eq_true rfl) (Nat.le_of_ble_eq_true rfl) ⟨congrArg some (by clear C hκ hκl hS hB hB1 hB2 hB3 hB4 hB5 hB6 hC hw hX hs hT h81 h82 f1a f1b f1c f1d; have e9 : ipB w m i = true := (by unfold ipB; simp; omega); rw [xpI_y e9, xo_y (by have := hpp (by omega) (by omega); omega)]; rfl), rfl⟩
set_option maxRecDepth 100000 in
theorem k10_param_14 {l : Launch} {θ : zTh} {σ : xA} {w : mW} {M N : zMap} (hX : xM θ σ w (xL w) M) (hs : xS w) (hw : mWF w) (hT : zTb θ) (b : Nat) (m : Int) (f : Int) (y : Int) (i : Int) (r_i : inR i) (hb : M b = some (.inr (14, [.ref (σ 20 (m)), .ref (σ 0 (0)), va_rf (xo σ 20 (f)), .ref (σ 0 (0)), .int (iI (y)), .ref (σ 0 (0))]))) (hm : 0 ≤ m ∧ m < w 11 0) (hf : -1 ≤ f ∧ f < w 11 0) (r_y : inR y) : ZM θ l yX10_param cX10_param 2 (some (.object "ReflectMirror$Type")) ⟨1, 0, 0, 25⟩ [.ref (b), .int (iI (i))] (zP θ M N) (zFn (some (va_rf (xo σ 10 (xpI w m i)))) (zP θ M N)) := by
  refine z_start (own := RX10) (nm := "param") pnX10 rfl rfl (Nat.le_of_ble_eq_true rfl) ?_
  intro κ hκ hκl C
  change Z κ (zP θ M N) 0 0 0 [(0, .ref (b)), (1, .int (iI (i)))] []
  have hS := hs.S
  have hB := hS.B
  obtain ⟨hB1, hB2, hB3, hB4, hB5, hB6⟩ := hS.B
  have hC := hS.C
  obtain ⟨h81, h82⟩ := hs.r8
  obtain ⟨f1a, f1b, f1c, f1d⟩ := hS.M (show 0 ≤ m by omega) (by omega)
  have hpp := (hS.M hm.1 hm.2).2.2.2 i
  refine z_iload_n C 1 1 dX10_param_0 rfl rfl ?_
  refine z_i2l C 2 dX10_param_1 r_i rfl ?_
  refine z_lconst (x := 0) C 3 dX10_param_2 rfl rfl ?_
  refine z_aload_n C 4 0 dX10_param_3 rfl rfl ?_
  refine z_getf C hκ (v := .ref (σ 20 (m))) 7 0 zk_X14 hb (by decide) q772 (Or.inl rfl) rfl dX10_param_4 rfl ?_
  refine z_getf C hκ (v := .int (iI (w 18 (m)))) 10 7 zk_X9 (hX.mem (by omega) (by omega)) (by decide) q679 (Or.inl rfl) rfl dX10_param_7 rfl ?_
  refine z_iconst C 11 dX10_param_10 rfl ?_
  refine z_isub C 12 dX10_param_11 rfl ?_
  refine z_i2l C 13 dX10_param_12 ⟨by omega, by omega⟩ rfl ?_
  refine z_callSN (As := [.long (lI (i)), .long (lI (0)), .long (lI ((w 18 (m)) - (1)))]) (rest := []) C hκ hκl hT 16 (k0_isIn hT (i) (0) ((w 18 (m)) - (1)) (inR_L r_i) ⟨by decide, by decide⟩ ⟨by omega, by omega⟩) dX10_param_13 q1051 q379 q90 q380 (zNd_of znX0_isIn) (Nat.le_of_ble_eq_true rfl) (Nat.le_of_ble_eq_true rfl) (Nat.le_of_ble_eq_true rfl) (Nat.le_of_ble_eq_true rfl) rfl (Nat.le_of_ble_eq_true rfl) rfl (fun v9 Q9 h9 => ?_)
  obtain ⟨rfl, rfl⟩ := h9
  refine z_as (st' := [.int (iI (bI (decide ((0) ≤ (i) ∧ (i) ≤ ((w 18 (m)) - (1))))))]) rfl rfl rfl ?_
  refine z_ifB_eq C 31 19 dX10_param_16 (by decide) rfl (fun c2 => ?_) (fun c2 => ?_)
  · skip
    have c2b : ¬ (((0) ≤ (i) ∧ (i) ≤ ((w 18 (m)) - (1)))) := of_decide_eq_false c2
    refine z_null C 32 dX10_param_31 rfl ?_
    exact z_aret C dX10_param_32 (Or.inl ⟨_, rfl⟩) (Or.inl rfl) (Nat.le_of_ble_eq_true rfl) (Nat.le_of_ble_eq_true rfl) ⟨congrArg some (by clear C hκ hκl hS hB hB1 hB2 hB3 hB4 hB5 hB6 hC hw hX hs hT h81 h82 f1a f1b f1c f1d; have e9 : ipB w m i = false := (by unfold ipB; simp; omega); unfold xpI; rw [if_neg (by simp [e9]), xo_n (by decide)]; rfl), rfl⟩
  · skip
    have c2b : (((0) ≤ (i) ∧ (i) ≤ ((w 18 (m)) - (1)))) := of_decide_eq_true c2
    refine z_aload_n C 20 0 dX10_param_19 rfl rfl ?_
    refine z_getf C hκ (v := .ref (σ 20 (m))) 23 0 zk_X14 hb (by decide) q772 (Or.inl rfl) rfl dX10_param_20 rfl ?_
    refine z_getf C hκ (v := .ref (σ 21 (m))) 26 6 zk_X9 (hX.mem (by omega) (by omega)) (by decide) q675 (Or.inl rfl) rfl dX10_param_23 rfl ?_
    refine z_iload_n C 27 1 dX10_param_26 rfl rfl ?_
    refine x_apm C hκ 28 hX hs (by omega) (by omega) (by omega) (by omega) dX10_param_27 rfl ?_
    refine z_goto C 32 dX10_param_28 (by decide) ?_
    exact z_aret C dX10_param_32 (Or.inl ⟨_, rfl⟩) (Or.inr ⟨_, rfl⟩) (Nat.le_of_ble_eq_true rfl) (Nat.le_of_ble_eq_true rfl) ⟨congrArg some (by clear C hκ hκl hS hB hB1 hB2 hB3 hB4 hB5 hB6 hC hw hX hs hT h81 h82 f1a f1b f1c f1d; have e9 : ipB w m i = true := (by unfold ipB; simp; omega); rw [xpI_y e9, xo_y (by have := hpp (by omega) (by omega); omega)]; rfl), rfl⟩
set_option maxRecDepth 100000 in
theorem k10_param_17 {l : Launch} {θ : zTh} {σ : xA} {w : mW} {M N : zMap} (hX : xM θ σ w (xL w) M) (hs : xS w) (hw : mWF w) (hT : zTb θ) (b : Nat) (m : Int) (x : Int) (y : Int) (i : Int) (r_i : inR i) (hb : M b = some (.inr (17, [.ref (σ 20 (m)), .ref (σ 0 (0)), .int (iI (x)), .ref (σ 0 (0)), .int (iI (y)), .ref (σ 0 (0))]))) (hm : 0 ≤ m ∧ m < w 11 0) (r_x : inR x) (r_y : inR y) : ZM θ l yX10_param cX10_param 2 (some (.object "ReflectMirror$Type")) ⟨1, 0, 0, 25⟩ [.ref (b), .int (iI (i))] (zP θ M N) (zFn (some (va_rf (xo σ 10 (xpI w m i)))) (zP θ M N)) := by
  refine z_start (own := RX10) (nm := "param") pnX10 rfl rfl (Nat.le_of_ble_eq_true rfl) ?_
  intro κ hκ hκl C
  change Z κ (zP θ M N) 0 0 0 [(0, .ref (b)), (1, .int (iI (i)))] []
  have hS := hs.S
  have hB := hS.B
  obtain ⟨hB1, hB2, hB3, hB4, hB5, hB6⟩ := hS.B
  have hC := hS.C
  obtain ⟨h81, h82⟩ := hs.r8
  obtain ⟨f1a, f1b, f1c, f1d⟩ := hS.M (show 0 ≤ m by omega) (by omega)
  have hpp := (hS.M hm.1 hm.2).2.2.2 i
  refine z_iload_n C 1 1 dX10_param_0 rfl rfl ?_
  refine z_i2l C 2 dX10_param_1 r_i rfl ?_
  refine z_lconst (x := 0) C 3 dX10_param_2 rfl rfl ?_
  refine z_aload_n C 4 0 dX10_param_3 rfl rfl ?_
  refine z_getf C hκ (v := .ref (σ 20 (m))) 7 0 zk_X17 hb (by decide) q772 (Or.inl rfl) rfl dX10_param_4 rfl ?_
  refine z_getf C hκ (v := .int (iI (w 18 (m)))) 10 7 zk_X9 (hX.mem (by omega) (by omega)) (by decide) q679 (Or.inl rfl) rfl dX10_param_7 rfl ?_
  refine z_iconst C 11 dX10_param_10 rfl ?_
  refine z_isub C 12 dX10_param_11 rfl ?_
  refine z_i2l C 13 dX10_param_12 ⟨by omega, by omega⟩ rfl ?_
  refine z_callSN (As := [.long (lI (i)), .long (lI (0)), .long (lI ((w 18 (m)) - (1)))]) (rest := []) C hκ hκl hT 16 (k0_isIn hT (i) (0) ((w 18 (m)) - (1)) (inR_L r_i) ⟨by decide, by decide⟩ ⟨by omega, by omega⟩) dX10_param_13 q1051 q379 q90 q380 (zNd_of znX0_isIn) (Nat.le_of_ble_eq_true rfl) (Nat.le_of_ble_eq_true rfl) (Nat.le_of_ble_eq_true rfl) (Nat.le_of_ble_eq_true rfl) rfl (Nat.le_of_ble_eq_true rfl) rfl (fun v9 Q9 h9 => ?_)
  obtain ⟨rfl, rfl⟩ := h9
  refine z_as (st' := [.int (iI (bI (decide ((0) ≤ (i) ∧ (i) ≤ ((w 18 (m)) - (1))))))]) rfl rfl rfl ?_
  refine z_ifB_eq C 31 19 dX10_param_16 (by decide) rfl (fun c2 => ?_) (fun c2 => ?_)
  · skip
    have c2b : ¬ (((0) ≤ (i) ∧ (i) ≤ ((w 18 (m)) - (1)))) := of_decide_eq_false c2
    refine z_null C 32 dX10_param_31 rfl ?_
    exact z_aret C dX10_param_32 (Or.inl ⟨_, rfl⟩) (Or.inl rfl) (Nat.le_of_ble_eq_true rfl) (Nat.le_of_ble_eq_true rfl) ⟨congrArg some (by clear C hκ hκl hS hB hB1 hB2 hB3 hB4 hB5 hB6 hC hw hX hs hT h81 h82 f1a f1b f1c f1d; have e9 : ipB w m i = false := (by unfold ipB; simp; omega); unfold xpI; rw [if_neg (by simp [e9]), xo_n (by decide)]; rfl), rfl⟩
  · skip
    have c2b : (((0) ≤ (i) ∧ (i) ≤ ((w 18 (m)) - (1)))) := of_decide_eq_true c2
    refine z_aload_n C 20 0 dX10_param_19 rfl rfl ?_
    refine z_getf C hκ (v := .ref (σ 20 (m))) 23 0 zk_X17 hb (by decide) q772 (Or.inl rfl) rfl dX10_param_20 rfl ?_
    refine z_getf C hκ (v := .ref (σ 21 (m))) 26 6 zk_X9 (hX.mem (by omega) (by omega)) (by decide) q675 (Or.inl rfl) rfl dX10_param_23 rfl ?_
    refine z_iload_n C 27 1 dX10_param_26 rfl rfl ?_
    refine x_apm C hκ 28 hX hs (by omega) (by omega) (by omega) (by omega) dX10_param_27 rfl ?_
    refine z_goto C 32 dX10_param_28 (by decide) ?_
    exact z_aret C dX10_param_32 (Or.inl ⟨_, rfl⟩) (Or.inr ⟨_, rfl⟩) (Nat.le_of_ble_eq_true rfl) (Nat.le_of_ble_eq_true rfl) ⟨congrArg some (by clear C hκ hκl hS hB hB1 hB2 hB3 hB4 hB5 hB6 hC hw hX hs hT h81 h82 f1a f1b f1c f1d; have e9 : ipB w m i = true := (by unfold ipB; simp; omega); rw [xpI_y e9, xo_y (by have := hpp (by omega) (by omega); omega)]; rfl), rfl⟩
set_option maxRecDepth 100000 in
theorem k10_param_21 {l : Launch} {θ : zTh} {σ : xA} {w : mW} {M N : zMap} (hX : xM θ σ w (xL w) M) (hs : xS w) (hw : mWF w) (hT : zTb θ) (b : Nat) (m : Int) (x : Int) (y : Int) (i : Int) (r_i : inR i) (hb : M b = some (.inr (21, [.ref (σ 20 (m)), .ref (σ 0 (0)), .int (iI (x)), .ref (σ 0 (0)), .int (iI (y)), .ref (σ 0 (0))]))) (hm : 0 ≤ m ∧ m < w 11 0) (r_x : inR x) (r_y : inR y) : ZM θ l yX10_param cX10_param 2 (some (.object "ReflectMirror$Type")) ⟨1, 0, 0, 25⟩ [.ref (b), .int (iI (i))] (zP θ M N) (zFn (some (va_rf (xo σ 10 (xpI w m i)))) (zP θ M N)) := by
  refine z_start (own := RX10) (nm := "param") pnX10 rfl rfl (Nat.le_of_ble_eq_true rfl) ?_
  intro κ hκ hκl C
  change Z κ (zP θ M N) 0 0 0 [(0, .ref (b)), (1, .int (iI (i)))] []
  have hS := hs.S
  have hB := hS.B
  obtain ⟨hB1, hB2, hB3, hB4, hB5, hB6⟩ := hS.B
  have hC := hS.C
  obtain ⟨h81, h82⟩ := hs.r8
  obtain ⟨f1a, f1b, f1c, f1d⟩ := hS.M (show 0 ≤ m by omega) (by omega)
  have hpp := (hS.M hm.1 hm.2).2.2.2 i
  refine z_iload_n C 1 1 dX10_param_0 rfl rfl ?_
  refine z_i2l C 2 dX10_param_1 r_i rfl ?_
  refine z_lconst (x := 0) C 3 dX10_param_2 rfl rfl ?_
  refine z_aload_n C 4 0 dX10_param_3 rfl rfl ?_
  refine z_getf C hκ (v := .ref (σ 20 (m))) 7 0 zk_X21 hb (by decide) q772 (Or.inl rfl) rfl dX10_param_4 rfl ?_
  refine z_getf C hκ (v := .int (iI (w 18 (m)))) 10 7 zk_X9 (hX.mem (by omega) (by omega)) (by decide) q679 (Or.inl rfl) rfl dX10_param_7 rfl ?_
  refine z_iconst C 11 dX10_param_10 rfl ?_
  refine z_isub C 12 dX10_param_11 rfl ?_
  refine z_i2l C 13 dX10_param_12 ⟨by omega, by omega⟩ rfl ?_
  refine z_callSN (As := [.long (lI (i)), .long (lI (0)), .long (lI ((w 18 (m)) - (1)))]) (rest := []) C hκ hκl hT 16 (k0_isIn hT (i) (0) ((w 18 (m)) - (1)) (inR_L r_i) ⟨by decide, by decide⟩ ⟨by omega, by omega⟩) dX10_param_13 q1051 q379 q90 q380 (zNd_of znX0_isIn) (Nat.le_of_ble_eq_true rfl) (Nat.le_of_ble_eq_true rfl) (Nat.le_of_ble_eq_true rfl) (Nat.le_of_ble_eq_true rfl) rfl (Nat.le_of_ble_eq_true rfl) rfl (fun v9 Q9 h9 => ?_)
  obtain ⟨rfl, rfl⟩ := h9
  refine z_as (st' := [.int (iI (bI (decide ((0) ≤ (i) ∧ (i) ≤ ((w 18 (m)) - (1))))))]) rfl rfl rfl ?_
  refine z_ifB_eq C 31 19 dX10_param_16 (by decide) rfl (fun c2 => ?_) (fun c2 => ?_)
  · skip
    have c2b : ¬ (((0) ≤ (i) ∧ (i) ≤ ((w 18 (m)) - (1)))) := of_decide_eq_false c2
    refine z_null C 32 dX10_param_31 rfl ?_
    exact z_aret C dX10_param_32 (Or.inl ⟨_, rfl⟩) (Or.inl rfl) (Nat.le_of_ble_eq_true rfl) (Nat.le_of_ble_eq_true rfl) ⟨congrArg some (by clear C hκ hκl hS hB hB1 hB2 hB3 hB4 hB5 hB6 hC hw hX hs hT h81 h82 f1a f1b f1c f1d; have e9 : ipB w m i = false := (by unfold ipB; simp; omega); unfold xpI; rw [if_neg (by simp [e9]), xo_n (by decide)]; rfl), rfl⟩
  · skip
    have c2b : (((0) ≤ (i) ∧ (i) ≤ ((w 18 (m)) - (1)))) := of_decide_eq_true c2
    refine z_aload_n C 20 0 dX10_param_19 rfl rfl ?_
    refine z_getf C hκ (v := .ref (σ 20 (m))) 23 0 zk_X21 hb (by decide) q772 (Or.inl rfl) rfl dX10_param_20 rfl ?_
    refine z_getf C hκ (v := .ref (σ 21 (m))) 26 6 zk_X9 (hX.mem (by omega) (by omega)) (by decide) q675 (Or.inl rfl) rfl dX10_param_23 rfl ?_
    refine z_iload_n C 27 1 dX10_param_26 rfl rfl ?_
    refine x_apm C hκ 28 hX hs (by omega) (by omega) (by omega) (by omega) dX10_param_27 rfl ?_
    refine z_goto C 32 dX10_param_28 (by decide) ?_
    exact z_aret C dX10_param_32 (Or.inl ⟨_, rfl⟩) (Or.inr ⟨_, rfl⟩) (Nat.le_of_ble_eq_true rfl) (Nat.le_of_ble_eq_true rfl) ⟨congrArg some (by clear C hκ hκl hS hB hB1 hB2 hB3 hB4 hB5 hB6 hC hw hX hs hT h81 h82 f1a f1b f1c f1d; have e9 : ipB w m i = true := (by unfold ipB; simp; omega); rw [xpI_y e9, xo_y (by have := hpp (by omega) (by omega); omega)]; rfl), rfl⟩
set_option maxRecDepth 100000 in
theorem k10_isNear_13 {l : Launch} {θ : zTh} {σ : xA} {w : mW} {M N : zMap} (hX : xM θ σ w (xL w) M) (hs : xS w) (hw : mWF w) (hT : zTb θ) (b : Nat) (m : Int) (f : Int) (o : Int)  (hb : M b = some (.inr (13, [.ref (σ 20 (m)), .ref (σ 0 (0)), va_rf (xo σ 20 (f)), .ref (σ 0 (0))]))) (hm : 0 ≤ m ∧ m < w 11 0) (hf : -1 ≤ f ∧ f < w 11 0) (ho : 0 ≤ o ∧ o < w 11 0) : ZM θ l yX10_isNear cX10_isNear 2 (some .boolean) ⟨247, 0, 0, 2530⟩ [.ref (b), .ref (σ 20 (o))] (zP θ M N) (zFn (some (.int (iI (bI (reB w m o))))) (zP θ M N)) := by
  refine z_start (own := RX10) (nm := "isNear") pnX10 rfl rfl (Nat.le_of_ble_eq_true rfl) ?_
  intro κ hκ hκl C
  change Z κ (zP θ M N) 0 0 0 [(0, .ref (b)), (1, .ref (σ 20 (o)))] []
  have hS := hs.S
  have hB := hS.B
  obtain ⟨hB1, hB2, hB3, hB4, hB5, hB6⟩ := hS.B
  have hC := hS.C
  obtain ⟨h81, h82⟩ := hs.r8
  obtain ⟨f1a, f1b, f1c, f1d⟩ := hS.M (show 0 ≤ m by omega) (by omega)
  obtain ⟨f2a, f2b, f2c, f2d⟩ := hS.M (show 0 ≤ o by omega) (by omega)
  have hg : giB w (w 13 m) (w 13 o) = isa w (w 13 m) (w 13 o) := gi_88 (by omega) (by omega)
  refine z_aload_n C 1 1 dX10_isNear_0 rfl rfl ?_
  refine z_iconst C 2 dX10_isNear_1 rfl ?_
  refine z_callV (As := [.int (iI (4))]) (rest := []) C hκ hκl 5 (k9_has hX hs hw hT (o) (4) ⟨by decide, by decide⟩ ⟨by omega, by omega⟩) dX10_isNear_2 q1068 q712 q713 q103 q714 znX9_has (Nat.le_of_ble_eq_true rfl) (Nat.le_of_ble_eq_true rfl) (Nat.le_of_ble_eq_true rfl) (Nat.le_of_ble_eq_true rfl) (zrec_P (hX.mem (by omega) (by omega))) rfl rfl (Nat.le_of_ble_eq_true rfl) rfl (fun v9 Q9 h9 => ?_)
  obtain ⟨rfl, rfl⟩ := h9
  refine z_as (st' := [.int (iI (bI (hasB w (o) (4))))]) rfl rfl rfl ?_
  refine z_ifB_ne C 36 8 dX10_isNear_5 (by decide) rfl (fun c3 => ?_) (fun c3 => ?_)
  · skip
    refine z_iconst C 37 dX10_isNear_36 rfl ?_
    refine z_goto C 41 dX10_isNear_37 (by decide) ?_
    refine z_as (st' := [.int (iI (bI (true)))]) rfl rfl rfl ?_
    exact z_iret C dX10_isNear_41 (bI_nar _) (Nat.le_of_ble_eq_true rfl) (Nat.le_of_ble_eq_true rfl) ⟨congrArg (fun b => some (Value.int (iI (bI b)))) (by clear C hκ hκl hS hB hB1 hB2 hB3 hB4 hB5 hB6 hC hw hX hs hT h81 h82 f1a f1b f1c f1d f2a f2b f2c f2d; first | (simp_all [reB]; done) | (simp_all [reB] <;> omega) | (grind [reB]) | (simp [reB] at * <;> omega)), rfl⟩
  · skip
    refine z_aload_n C 9 0 dX10_isNear_8 rfl rfl ?_
    refine z_getf C hκ (v := .ref (σ 20 (m))) 12 0 zk_X13 hb (by decide) q772 (Or.inl rfl) rfl dX10_isNear_9 rfl ?_
    refine z_iconst C 13 dX10_isNear_12 rfl ?_
    refine z_callV (As := [.int (iI (4))]) (rest := []) C hκ hκl 16 (k9_has hX hs hw hT (m) (4) ⟨by decide, by decide⟩ ⟨by omega, by omega⟩) dX10_isNear_13 q1068 q712 q713 q103 q714 znX9_has (Nat.le_of_ble_eq_true rfl) (Nat.le_of_ble_eq_true rfl) (Nat.le_of_ble_eq_true rfl) (Nat.le_of_ble_eq_true rfl) (zrec_P (hX.mem (by omega) (by omega))) rfl rfl (Nat.le_of_ble_eq_true rfl) rfl (fun v9 Q9 h9 => ?_)
    obtain ⟨rfl, rfl⟩ := h9
    refine z_as (st' := [.int (iI (bI (hasB w (m) (4))))]) rfl rfl rfl ?_
    refine z_ifB_ne C 40 19 dX10_isNear_16 (by decide) rfl (fun c4 => ?_) (fun c4 => ?_)
    · skip
      refine z_iconst C 41 dX10_isNear_40 rfl ?_
      refine z_as (st' := [.int (iI (bI (false)))]) rfl rfl rfl ?_
      exact z_iret C dX10_isNear_41 (bI_nar _) (Nat.le_of_ble_eq_true rfl) (Nat.le_of_ble_eq_true rfl) ⟨congrArg (fun b => some (Value.int (iI (bI b)))) (by clear C hκ hκl hS hB hB1 hB2 hB3 hB4 hB5 hB6 hC hw hX hs hT h81 h82 f1a f1b f1c f1d f2a f2b f2c f2d; first | (simp_all [reB]; done) | (simp_all [reB] <;> omega) | (grind [reB]) | (simp [reB] at * <;> omega)), rfl⟩
    · skip
      refine z_aload_n C 20 0 dX10_isNear_19 rfl rfl ?_
      refine z_getf C hκ (v := .ref (σ 20 (m))) 23 0 zk_X13 hb (by decide) q772 (Or.inl rfl) rfl dX10_isNear_20 rfl ?_
      refine z_getf C hκ (v := .ref (σ 10 (w 13 (m)))) 26 1 zk_X9 (hX.mem (by omega) (by omega)) (by decide) q658 (Or.inl rfl) rfl dX10_isNear_23 rfl ?_
      refine z_aload_n C 27 1 dX10_isNear_26 rfl rfl ?_
      refine z_getf C hκ (v := .ref (σ 10 (w 13 (o)))) 30 1 zk_X9 (hX.mem (by omega) (by omega)) (by decide) q658 (Or.inl rfl) rfl dX10_isNear_27 rfl ?_
      obtain ⟨f5a, f5b, f5c, f5d, f5e, f5f, f5g, f5h⟩ := hS.T (show 0 ≤ w 13 (m) by omega) (by omega)
      obtain ⟨f5i, f5j, f5k, f5l⟩ := hs.ty (show 0 ≤ w 13 (m) by omega) (by omega)
      obtain ⟨f6a, f6b, f6c, f6d, f6e, f6f, f6g, f6h⟩ := hS.T (show 0 ≤ w 13 (o) by omega) (by omega)
      obtain ⟨f6i, f6j, f6k, f6l⟩ := hs.ty (show 0 ≤ w 13 (o) by omega) (by omega)
      refine xv_is (rest := []) C hκ hκl hX hs hw hT (w 13 (m)) (w 13 (o)) ⟨(by omega), (by omega)⟩ ⟨(by omega), (by omega)⟩ 33 dX10_isNear_30 q1069 (Nat.le_of_ble_eq_true rfl) (Nat.le_of_ble_eq_true rfl) (Nat.le_of_ble_eq_true rfl) (Nat.le_of_ble_eq_true rfl) (Nat.le_of_ble_eq_true rfl) rfl ?_
      refine z_as (st' := [.int (iI (bI (giB w (w 13 (m)) (w 13 (o)))))]) rfl rfl rfl ?_
      refine z_ifB_eq C 40 36 dX10_isNear_33 (by decide) rfl (fun c7 => ?_) (fun c7 => ?_)
      · skip
        refine z_iconst C 41 dX10_isNear_40 rfl ?_
        refine z_as (st' := [.int (iI (bI (false)))]) rfl rfl rfl ?_
        exact z_iret C dX10_isNear_41 (bI_nar _) (Nat.le_of_ble_eq_true rfl) (Nat.le_of_ble_eq_true rfl) ⟨congrArg (fun b => some (Value.int (iI (bI b)))) (by clear C hκ hκl hS hB hB1 hB2 hB3 hB4 hB5 hB6 hC hw hX hs hT h81 h82 f1a f1b f1c f1d f2a f2b f2c f2d f5a f5b f5c f5d f5e f5f f5g f5h f5i f5j f5k f5l f6a f6b f6c f6d f6e f6f f6g f6h f6i f6j f6k f6l; first | (simp_all [reB]; done) | (simp_all [reB] <;> omega) | (grind [reB]) | (simp [reB] at * <;> omega)), rfl⟩
      · skip
        refine z_iconst C 37 dX10_isNear_36 rfl ?_
        refine z_goto C 41 dX10_isNear_37 (by decide) ?_
        refine z_as (st' := [.int (iI (bI (true)))]) rfl rfl rfl ?_
        exact z_iret C dX10_isNear_41 (bI_nar _) (Nat.le_of_ble_eq_true rfl) (Nat.le_of_ble_eq_true rfl) ⟨congrArg (fun b => some (Value.int (iI (bI b)))) (by clear C hκ hκl hS hB hB1 hB2 hB3 hB4 hB5 hB6 hC hw hX hs hT h81 h82 f1a f1b f1c f1d f2a f2b f2c f2d f5a f5b f5c f5d f5e f5f f5g f5h f5i f5j f5k f5l f6a f6b f6c f6d f6e f6f f6g f6h f6i f6j f6k f6l; first | (simp_all [reB]; done) | (simp_all [reB] <;> omega) | (grind [reB]) | (simp [reB] at * <;> omega)), rfl⟩
set_option maxRecDepth 100000 in
theorem k10_isNear_14 {l : Launch} {θ : zTh} {σ : xA} {w : mW} {M N : zMap} (hX : xM θ σ w (xL w) M) (hs : xS w) (hw : mWF w) (hT : zTb θ) (b : Nat) (m : Int) (f : Int) (y : Int) (o : Int)  (hb : M b = some (.inr (14, [.ref (σ 20 (m)), .ref (σ 0 (0)), va_rf (xo σ 20 (f)), .ref (σ 0 (0)), .int (iI (y)), .ref (σ 0 (0))]))) (hm : 0 ≤ m ∧ m < w 11 0) (hf : -1 ≤ f ∧ f < w 11 0) (r_y : inR y) (ho : 0 ≤ o ∧ o < w 11 0) : ZM θ l yX10_isNear cX10_isNear 2 (some .boolean) ⟨247, 0, 0, 2530⟩ [.ref (b), .ref (σ 20 (o))] (zP θ M N) (zFn (some (.int (iI (bI (reB w m o))))) (zP θ M N)) := by
  refine z_start (own := RX10) (nm := "isNear") pnX10 rfl rfl (Nat.le_of_ble_eq_true rfl) ?_
  intro κ hκ hκl C
  change Z κ (zP θ M N) 0 0 0 [(0, .ref (b)), (1, .ref (σ 20 (o)))] []
  have hS := hs.S
  have hB := hS.B
  obtain ⟨hB1, hB2, hB3, hB4, hB5, hB6⟩ := hS.B
  have hC := hS.C
  obtain ⟨h81, h82⟩ := hs.r8
  obtain ⟨f1a, f1b, f1c, f1d⟩ := hS.M (show 0 ≤ m by omega) (by omega)
  obtain ⟨f2a, f2b, f2c, f2d⟩ := hS.M (show 0 ≤ o by omega) (by omega)
  have hg : giB w (w 13 m) (w 13 o) = isa w (w 13 m) (w 13 o) := gi_88 (by omega) (by omega)
  refine z_aload_n C 1 1 dX10_isNear_0 rfl rfl ?_
  refine z_iconst C 2 dX10_isNear_1 rfl ?_
  refine z_callV (As := [.int (iI (4))]) (rest := []) C hκ hκl 5 (k9_has hX hs hw hT (o) (4) ⟨by decide, by decide⟩ ⟨by omega, by omega⟩) dX10_isNear_2 q1068 q712 q713 q103 q714 znX9_has (Nat.le_of_ble_eq_true rfl) (Nat.le_of_ble_eq_true rfl) (Nat.le_of_ble_eq_true rfl) (Nat.le_of_ble_eq_true rfl) (zrec_P (hX.mem (by omega) (by omega))) rfl rfl (Nat.le_of_ble_eq_true rfl) rfl (fun v9 Q9 h9 => ?_)
  obtain ⟨rfl, rfl⟩ := h9
  refine z_as (st' := [.int (iI (bI (hasB w (o) (4))))]) rfl rfl rfl ?_
  refine z_ifB_ne C 36 8 dX10_isNear_5 (by decide) rfl (fun c3 => ?_) (fun c3 => ?_)
  · skip
    refine z_iconst C 37 dX10_isNear_36 rfl ?_
    refine z_goto C 41 dX10_isNear_37 (by decide) ?_
    refine z_as (st' := [.int (iI (bI (true)))]) rfl rfl rfl ?_
    exact z_iret C dX10_isNear_41 (bI_nar _) (Nat.le_of_ble_eq_true rfl) (Nat.le_of_ble_eq_true rfl) ⟨congrArg (fun b => some (Value.int (iI (bI b)))) (by clear C hκ hκl hS hB hB1 hB2 hB3 hB4 hB5 hB6 hC hw hX hs hT h81 h82 f1a f1b f1c f1d f2a f2b f2c f2d; first | (simp_all [reB]; done) | (simp_all [reB] <;> omega) | (grind [reB]) | (simp [reB] at * <;> omega)), rfl⟩
  · skip
    refine z_aload_n C 9 0 dX10_isNear_8 rfl rfl ?_
    refine z_getf C hκ (v := .ref (σ 20 (m))) 12 0 zk_X14 hb (by decide) q772 (Or.inl rfl) rfl dX10_isNear_9 rfl ?_
    refine z_iconst C 13 dX10_isNear_12 rfl ?_
    refine z_callV (As := [.int (iI (4))]) (rest := []) C hκ hκl 16 (k9_has hX hs hw hT (m) (4) ⟨by decide, by decide⟩ ⟨by omega, by omega⟩) dX10_isNear_13 q1068 q712 q713 q103 q714 znX9_has (Nat.le_of_ble_eq_true rfl) (Nat.le_of_ble_eq_true rfl) (Nat.le_of_ble_eq_true rfl) (Nat.le_of_ble_eq_true rfl) (zrec_P (hX.mem (by omega) (by omega))) rfl rfl (Nat.le_of_ble_eq_true rfl) rfl (fun v9 Q9 h9 => ?_)
    obtain ⟨rfl, rfl⟩ := h9
    refine z_as (st' := [.int (iI (bI (hasB w (m) (4))))]) rfl rfl rfl ?_
    refine z_ifB_ne C 40 19 dX10_isNear_16 (by decide) rfl (fun c4 => ?_) (fun c4 => ?_)
    · skip
      refine z_iconst C 41 dX10_isNear_40 rfl ?_
      refine z_as (st' := [.int (iI (bI (false)))]) rfl rfl rfl ?_
      exact z_iret C dX10_isNear_41 (bI_nar _) (Nat.le_of_ble_eq_true rfl) (Nat.le_of_ble_eq_true rfl) ⟨congrArg (fun b => some (Value.int (iI (bI b)))) (by clear C hκ hκl hS hB hB1 hB2 hB3 hB4 hB5 hB6 hC hw hX hs hT h81 h82 f1a f1b f1c f1d f2a f2b f2c f2d; first | (simp_all [reB]; done) | (simp_all [reB] <;> omega) | (grind [reB]) | (simp [reB] at * <;> omega)), rfl⟩
    · skip
      refine z_aload_n C 20 0 dX10_isNear_19 rfl rfl ?_
      refine z_getf C hκ (v := .ref (σ 20 (m))) 23 0 zk_X14 hb (by decide) q772 (Or.inl rfl) rfl dX10_isNear_20 rfl ?_
      refine z_getf C hκ (v := .ref (σ 10 (w 13 (m)))) 26 1 zk_X9 (hX.mem (by omega) (by omega)) (by decide) q658 (Or.inl rfl) rfl dX10_isNear_23 rfl ?_
      refine z_aload_n C 27 1 dX10_isNear_26 rfl rfl ?_
      refine z_getf C hκ (v := .ref (σ 10 (w 13 (o)))) 30 1 zk_X9 (hX.mem (by omega) (by omega)) (by decide) q658 (Or.inl rfl) rfl dX10_isNear_27 rfl ?_
      obtain ⟨f5a, f5b, f5c, f5d, f5e, f5f, f5g, f5h⟩ := hS.T (show 0 ≤ w 13 (m) by omega) (by omega)
      obtain ⟨f5i, f5j, f5k, f5l⟩ := hs.ty (show 0 ≤ w 13 (m) by omega) (by omega)
      obtain ⟨f6a, f6b, f6c, f6d, f6e, f6f, f6g, f6h⟩ := hS.T (show 0 ≤ w 13 (o) by omega) (by omega)
      obtain ⟨f6i, f6j, f6k, f6l⟩ := hs.ty (show 0 ≤ w 13 (o) by omega) (by omega)
      refine xv_is (rest := []) C hκ hκl hX hs hw hT (w 13 (m)) (w 13 (o)) ⟨(by omega), (by omega)⟩ ⟨(by omega), (by omega)⟩ 33 dX10_isNear_30 q1069 (Nat.le_of_ble_eq_true rfl) (Nat.le_of_ble_eq_true rfl) (Nat.le_of_ble_eq_true rfl) (Nat.le_of_ble_eq_true rfl) (Nat.le_of_ble_eq_true rfl) rfl ?_
      refine z_as (st' := [.int (iI (bI (giB w (w 13 (m)) (w 13 (o)))))]) rfl rfl rfl ?_
      refine z_ifB_eq C 40 36 dX10_isNear_33 (by decide) rfl (fun c7 => ?_) (fun c7 => ?_)
      · skip
        refine z_iconst C 41 dX10_isNear_40 rfl ?_
        refine z_as (st' := [.int (iI (bI (false)))]) rfl rfl rfl ?_
        exact z_iret C dX10_isNear_41 (bI_nar _) (Nat.le_of_ble_eq_true rfl) (Nat.le_of_ble_eq_true rfl) ⟨congrArg (fun b => some (Value.int (iI (bI b)))) (by clear C hκ hκl hS hB hB1 hB2 hB3 hB4 hB5 hB6 hC hw hX hs hT h81 h82 f1a f1b f1c f1d f2a f2b f2c f2d f5a f5b f5c f5d f5e f5f f5g f5h f5i f5j f5k f5l f6a f6b f6c f6d f6e f6f f6g f6h f6i f6j f6k f6l; first | (simp_all [reB]; done) | (simp_all [reB] <;> omega) | (grind [reB]) | (simp [reB] at * <;> omega)), rfl⟩
      · skip
        refine z_iconst C 37 dX10_isNear_36 rfl ?_
        refine z_goto C 41 dX10_isNear_37 (by decide) ?_
        refine z_as (st' := [.int (iI (bI (true)))]) rfl rfl rfl ?_
        exact z_iret C dX10_isNear_41 (bI_nar _) (Nat.le_of_ble_eq_true rfl) (Nat.le_of_ble_eq_true rfl) ⟨congrArg (fun b => some (Value.int (iI (bI b)))) (by clear C hκ hκl hS hB hB1 hB2 hB3 hB4 hB5 hB6 hC hw hX hs hT h81 h82 f1a f1b f1c f1d f2a f2b f2c f2d f5a f5b f5c f5d f5e f5f f5g f5h f5i f5j f5k f5l f6a f6b f6c f6d f6e f6f f6g f6h f6i f6j f6k f6l; first | (simp_all [reB]; done) | (simp_all [reB] <;> omega) | (grind [reB]) | (simp [reB] at * <;> omega)), rfl⟩
set_option maxRecDepth 100000 in
theorem k10_isNear_16 {l : Launch} {θ : zTh} {σ : xA} {w : mW} {M N : zMap} (hX : xM θ σ w (xL w) M) (hs : xS w) (hw : mWF w) (hT : zTb θ) (b : Nat) (m : Int) (f : Int) (o : Int)  (hb : M b = some (.inr (16, [.ref (σ 20 (m)), .ref (σ 0 (0)), va_rf (xo σ 20 (f)), .ref (σ 0 (0))]))) (hm : 0 ≤ m ∧ m < w 11 0) (hf : -1 ≤ f ∧ f < w 11 0) (ho : 0 ≤ o ∧ o < w 11 0) : ZM θ l yX10_isNear cX10_isNear 2 (some .boolean) ⟨247, 0, 0, 2530⟩ [.ref (b), .ref (σ 20 (o))] (zP θ M N) (zFn (some (.int (iI (bI (reB w m o))))) (zP θ M N)) := by
  refine z_start (own := RX10) (nm := "isNear") pnX10 rfl rfl (Nat.le_of_ble_eq_true rfl) ?_
  intro κ hκ hκl C
  change Z κ (zP θ M N) 0 0 0 [(0, .ref (b)), (1, .ref (σ 20 (o)))] []
  have hS := hs.S
  have hB := hS.B
  obtain ⟨hB1, hB2, hB3, hB4, hB5, hB6⟩ := hS.B
  have hC := hS.C
  obtain ⟨h81, h82⟩ := hs.r8
  obtain ⟨f1a, f1b, f1c, f1d⟩ := hS.M (show 0 ≤ m by omega) (by omega)
  obtain ⟨f2a, f2b, f2c, f2d⟩ := hS.M (show 0 ≤ o by omega) (by omega)
  have hg : giB w (w 13 m) (w 13 o) = isa w (w 13 m) (w 13 o) := gi_88 (by omega) (by omega)
  refine z_aload_n C 1 1 dX10_isNear_0 rfl rfl ?_
  refine z_iconst C 2 dX10_isNear_1 rfl ?_
  refine z_callV (As := [.int (iI (4))]) (rest := []) C hκ hκl 5 (k9_has hX hs hw hT (o) (4) ⟨by decide, by decide⟩ ⟨by omega, by omega⟩) dX10_isNear_2 q1068 q712 q713 q103 q714 znX9_has (Nat.le_of_ble_eq_true rfl) (Nat.le_of_ble_eq_true rfl) (Nat.le_of_ble_eq_true rfl) (Nat.le_of_ble_eq_true rfl) (zrec_P (hX.mem (by omega) (by omega))) rfl rfl (Nat.le_of_ble_eq_true rfl) rfl (fun v9 Q9 h9 => ?_)
  obtain ⟨rfl, rfl⟩ := h9
  refine z_as (st' := [.int (iI (bI (hasB w (o) (4))))]) rfl rfl rfl ?_
  refine z_ifB_ne C 36 8 dX10_isNear_5 (by decide) rfl (fun c3 => ?_) (fun c3 => ?_)
  · skip
    refine z_iconst C 37 dX10_isNear_36 rfl ?_
    refine z_goto C 41 dX10_isNear_37 (by decide) ?_
    refine z_as (st' := [.int (iI (bI (true)))]) rfl rfl rfl ?_
    exact z_iret C dX10_isNear_41 (bI_nar _) (Nat.le_of_ble_eq_true rfl) (Nat.le_of_ble_eq_true rfl) ⟨congrArg (fun b => some (Value.int (iI (bI b)))) (by clear C hκ hκl hS hB hB1 hB2 hB3 hB4 hB5 hB6 hC hw hX hs hT h81 h82 f1a f1b f1c f1d f2a f2b f2c f2d; first | (simp_all [reB]; done) | (simp_all [reB] <;> omega) | (grind [reB]) | (simp [reB] at * <;> omega)), rfl⟩
  · skip
    refine z_aload_n C 9 0 dX10_isNear_8 rfl rfl ?_
    refine z_getf C hκ (v := .ref (σ 20 (m))) 12 0 zk_X16 hb (by decide) q772 (Or.inl rfl) rfl dX10_isNear_9 rfl ?_
    refine z_iconst C 13 dX10_isNear_12 rfl ?_
    refine z_callV (As := [.int (iI (4))]) (rest := []) C hκ hκl 16 (k9_has hX hs hw hT (m) (4) ⟨by decide, by decide⟩ ⟨by omega, by omega⟩) dX10_isNear_13 q1068 q712 q713 q103 q714 znX9_has (Nat.le_of_ble_eq_true rfl) (Nat.le_of_ble_eq_true rfl) (Nat.le_of_ble_eq_true rfl) (Nat.le_of_ble_eq_true rfl) (zrec_P (hX.mem (by omega) (by omega))) rfl rfl (Nat.le_of_ble_eq_true rfl) rfl (fun v9 Q9 h9 => ?_)
    obtain ⟨rfl, rfl⟩ := h9
    refine z_as (st' := [.int (iI (bI (hasB w (m) (4))))]) rfl rfl rfl ?_
    refine z_ifB_ne C 40 19 dX10_isNear_16 (by decide) rfl (fun c4 => ?_) (fun c4 => ?_)
    · skip
      refine z_iconst C 41 dX10_isNear_40 rfl ?_
      refine z_as (st' := [.int (iI (bI (false)))]) rfl rfl rfl ?_
      exact z_iret C dX10_isNear_41 (bI_nar _) (Nat.le_of_ble_eq_true rfl) (Nat.le_of_ble_eq_true rfl) ⟨congrArg (fun b => some (Value.int (iI (bI b)))) (by clear C hκ hκl hS hB hB1 hB2 hB3 hB4 hB5 hB6 hC hw hX hs hT h81 h82 f1a f1b f1c f1d f2a f2b f2c f2d; first | (simp_all [reB]; done) | (simp_all [reB] <;> omega) | (grind [reB]) | (simp [reB] at * <;> omega)), rfl⟩
    · skip
      refine z_aload_n C 20 0 dX10_isNear_19 rfl rfl ?_
      refine z_getf C hκ (v := .ref (σ 20 (m))) 23 0 zk_X16 hb (by decide) q772 (Or.inl rfl) rfl dX10_isNear_20 rfl ?_
      refine z_getf C hκ (v := .ref (σ 10 (w 13 (m)))) 26 1 zk_X9 (hX.mem (by omega) (by omega)) (by decide) q658 (Or.inl rfl) rfl dX10_isNear_23 rfl ?_
      refine z_aload_n C 27 1 dX10_isNear_26 rfl rfl ?_
      refine z_getf C hκ (v := .ref (σ 10 (w 13 (o)))) 30 1 zk_X9 (hX.mem (by omega) (by omega)) (by decide) q658 (Or.inl rfl) rfl dX10_isNear_27 rfl ?_
      obtain ⟨f5a, f5b, f5c, f5d, f5e, f5f, f5g, f5h⟩ := hS.T (show 0 ≤ w 13 (m) by omega) (by omega)
      obtain ⟨f5i, f5j, f5k, f5l⟩ := hs.ty (show 0 ≤ w 13 (m) by omega) (by omega)
      obtain ⟨f6a, f6b, f6c, f6d, f6e, f6f, f6g, f6h⟩ := hS.T (show 0 ≤ w 13 (o) by omega) (by omega)
      obtain ⟨f6i, f6j, f6k, f6l⟩ := hs.ty (show 0 ≤ w 13 (o) by omega) (by omega)
      refine xv_is (rest := []) C hκ hκl hX hs hw hT (w 13 (m)) (w 13 (o)) ⟨(by omega), (by omega)⟩ ⟨(by omega), (by omega)⟩ 33 dX10_isNear_30 q1069 (Nat.le_of_ble_eq_true rfl) (Nat.le_of_ble_eq_true rfl) (Nat.le_of_ble_eq_true rfl) (Nat.le_of_ble_eq_true rfl) (Nat.le_of_ble_eq_true rfl) rfl ?_
      refine z_as (st' := [.int (iI (bI (giB w (w 13 (m)) (w 13 (o)))))]) rfl rfl rfl ?_
      refine z_ifB_eq C 40 36 dX10_isNear_33 (by decide) rfl (fun c7 => ?_) (fun c7 => ?_)
      · skip
        refine z_iconst C 41 dX10_isNear_40 rfl ?_
        refine z_as (st' := [.int (iI (bI (false)))]) rfl rfl rfl ?_
        exact z_iret C dX10_isNear_41 (bI_nar _) (Nat.le_of_ble_eq_true rfl) (Nat.le_of_ble_eq_true rfl) ⟨congrArg (fun b => some (Value.int (iI (bI b)))) (by clear C hκ hκl hS hB hB1 hB2 hB3 hB4 hB5 hB6 hC hw hX hs hT h81 h82 f1a f1b f1c f1d f2a f2b f2c f2d f5a f5b f5c f5d f5e f5f f5g f5h f5i f5j f5k f5l f6a f6b f6c f6d f6e f6f f6g f6h f6i f6j f6k f6l; first | (simp_all [reB]; done) | (simp_all [reB] <;> omega) | (grind [reB]) | (simp [reB] at * <;> omega)), rfl⟩
      · skip
        refine z_iconst C 37 dX10_isNear_36 rfl ?_
        refine z_goto C 41 dX10_isNear_37 (by decide) ?_
        refine z_as (st' := [.int (iI (bI (true)))]) rfl rfl rfl ?_
        exact z_iret C dX10_isNear_41 (bI_nar _) (Nat.le_of_ble_eq_true rfl) (Nat.le_of_ble_eq_true rfl) ⟨congrArg (fun b => some (Value.int (iI (bI b)))) (by clear C hκ hκl hS hB hB1 hB2 hB3 hB4 hB5 hB6 hC hw hX hs hT h81 h82 f1a f1b f1c f1d f2a f2b f2c f2d f5a f5b f5c f5d f5e f5f f5g f5h f5i f5j f5k f5l f6a f6b f6c f6d f6e f6f f6g f6h f6i f6j f6k f6l; first | (simp_all [reB]; done) | (simp_all [reB] <;> omega) | (grind [reB]) | (simp [reB] at * <;> omega)), rfl⟩
set_option maxRecDepth 100000 in
theorem k10_type_11 {l : Launch} {θ : zTh} {σ : xA} {w : mW} {M N : zMap} (hX : xM θ σ w (xL w) M) (hs : xS w) (hw : mWF w) (hT : zTb θ) (b : Nat) (m : Int)  (hb : M b = some (.inr (11, [.ref (σ 20 (m)), .ref (σ 0 (0)), .ref (σ 0 (0))]))) (hm : 0 ≤ m ∧ m < w 11 0) : ZM θ l yX10_type cX10_type 1 (some (.object "ReflectMirror$Type")) ⟨0, 0, 0, 0⟩ [.ref (b)] (zP θ M N) (zFn (some (va_rf (xo σ 10 (-1)))) (zP θ M N)) := by
  refine z_start (own := RX10) (nm := "type") pnX10 rfl rfl (Nat.le_of_ble_eq_true rfl) ?_
  intro κ hκ hκl C
  change Z κ (zP θ M N) 0 0 0 [(0, .ref (b))] []
  have hS := hs.S
  have hB := hS.B
  obtain ⟨hB1, hB2, hB3, hB4, hB5, hB6⟩ := hS.B
  have hC := hS.C
  obtain ⟨h81, h82⟩ := hs.r8
  obtain ⟨f1a, f1b, f1c, f1d⟩ := hS.M (show 0 ≤ m by omega) (by omega)
  refine z_null C 1 dX10_type_0 rfl ?_
  exact z_aret C dX10_type_1 (Or.inl ⟨_, rfl⟩) (Or.inl rfl) (Nat.le_of_ble_eq_true rfl) (Nat.le_of_ble_eq_true rfl) ⟨congrArg some (by rw [xo_n (by decide)]; rfl), rfl⟩
set_option maxRecDepth 100000 in
theorem k10_type_15 {l : Launch} {θ : zTh} {σ : xA} {w : mW} {M N : zMap} (hX : xM θ σ w (xL w) M) (hs : xS w) (hw : mWF w) (hT : zTb θ) (b : Nat) (m : Int) (x : Int)  (hb : M b = some (.inr (15, [.ref (σ 20 (m)), .ref (σ 0 (0)), .int (iI (x)), .ref (σ 0 (0))]))) (hm : 0 ≤ m ∧ m < w 11 0) (r_x : inR x) : ZM θ l yX10_type cX10_type 1 (some (.object "ReflectMirror$Type")) ⟨0, 0, 0, 0⟩ [.ref (b)] (zP θ M N) (zFn (some (va_rf (xo σ 10 (-1)))) (zP θ M N)) := by
  refine z_start (own := RX10) (nm := "type") pnX10 rfl rfl (Nat.le_of_ble_eq_true rfl) ?_
  intro κ hκ hκl C
  change Z κ (zP θ M N) 0 0 0 [(0, .ref (b))] []
  have hS := hs.S
  have hB := hS.B
  obtain ⟨hB1, hB2, hB3, hB4, hB5, hB6⟩ := hS.B
  have hC := hS.C
  obtain ⟨h81, h82⟩ := hs.r8
  obtain ⟨f1a, f1b, f1c, f1d⟩ := hS.M (show 0 ≤ m by omega) (by omega)
  refine z_null C 1 dX10_type_0 rfl ?_
  exact z_aret C dX10_type_1 (Or.inl ⟨_, rfl⟩) (Or.inl rfl) (Nat.le_of_ble_eq_true rfl) (Nat.le_of_ble_eq_true rfl) ⟨congrArg some (by rw [xo_n (by decide)]; rfl), rfl⟩
set_option maxRecDepth 100000 in
theorem k14_type_14 {l : Launch} {θ : zTh} {σ : xA} {w : mW} {M N : zMap} (hX : xM θ σ w (xL w) M) (hs : xS w) (hw : mWF w) (hT : zTb θ) (b : Nat) (m : Int) (f : Int) (y : Int)  (hb : M b = some (.inr (14, [.ref (σ 20 (m)), .ref (σ 0 (0)), va_rf (xo σ 20 (f)), .ref (σ 0 (0)), .int (iI (y)), .ref (σ 0 (0))]))) (hm : 0 ≤ m ∧ m < w 11 0) (hf : -1 ≤ f ∧ f < w 11 0) (r_y : inR y) : ZM θ l yX14_type cX14_type 1 (some (.object "ReflectMirror$Type")) ⟨0, 0, 0, 0⟩ [.ref (b)] (zP θ M N) (zFn (some (va_rf (xo σ 10 (-1)))) (zP θ M N)) := by
  refine z_start (own := RX14) (nm := "type") pnX14 rfl rfl (Nat.le_of_ble_eq_true rfl) ?_
  intro κ hκ hκl C
  change Z κ (zP θ M N) 0 0 0 [(0, .ref (b))] []
  have hS := hs.S
  have hB := hS.B
  obtain ⟨hB1, hB2, hB3, hB4, hB5, hB6⟩ := hS.B
  have hC := hS.C
  obtain ⟨h81, h82⟩ := hs.r8
  obtain ⟨f1a, f1b, f1c, f1d⟩ := hS.M (show 0 ≤ m by omega) (by omega)
  refine z_null C 1 dX14_type_0 rfl ?_
  exact z_aret C dX14_type_1 (Or.inl ⟨_, rfl⟩) (Or.inl rfl) (Nat.le_of_ble_eq_true rfl) (Nat.le_of_ble_eq_true rfl) ⟨congrArg some (by rw [xo_n (by decide)]; rfl), rfl⟩
set_option maxRecDepth 100000 in
theorem k12_type_12 {l : Launch} {θ : zTh} {σ : xA} {w : mW} {M N : zMap} (hX : xM θ σ w (xL w) M) (hs : xS w) (hw : mWF w) (hT : zTb θ) (b : Nat) (m : Int) (x : Int)  (hb : M b = some (.inr (12, [.ref (σ 20 (m)), .ref (σ 0 (0)), .int (iI (x)), .ref (σ 0 (0))]))) (hm : 0 ≤ m ∧ m < w 11 0) (r_x : inR x) : ZM θ l yX12_type cX12_type 1 (some (.object "ReflectMirror$Type")) ⟨2, 0, 0, 46⟩ [.ref (b)] (zP θ M N) (zFn (some (va_rf (xo σ 10 (xpI w m x)))) (zP θ M N)) := by
  refine z_start (own := RX12) (nm := "type") pnX12 rfl rfl (Nat.le_of_ble_eq_true rfl) ?_
  intro κ hκ hκl C
  change Z κ (zP θ M N) 0 0 0 [(0, .ref (b))] []
  have hS := hs.S
  have hB := hS.B
  obtain ⟨hB1, hB2, hB3, hB4, hB5, hB6⟩ := hS.B
  have hC := hS.C
  obtain ⟨h81, h82⟩ := hs.r8
  obtain ⟨f1a, f1b, f1c, f1d⟩ := hS.M (show 0 ≤ m by omega) (by omega)
  refine z_aload_n C 1 0 dX12_type_0 rfl rfl ?_
  refine z_aload_n C 2 0 dX12_type_1 rfl rfl ?_
  refine z_getf C hκ (v := .int (iI (x))) 5 2 zk_X12 hb (by decide) q810 (Or.inl rfl) rfl dX12_type_2 rfl ?_
  refine z_callU (owner := RX10) (As := [.int (iI (x))]) (rest := []) C hκ hκl 8 (k10_param_12 hX hs hw hT (b) (m) (x) (x) r_x hb ⟨by omega, by omega⟩ r_x) dX12_type_5 q1082 q1083 q1086 q1049 q104 q1050 rfl ⟨by decide, by decide, rfl⟩ (Nat.le_of_ble_eq_true rfl) (Nat.le_of_ble_eq_true rfl) (Nat.le_of_ble_eq_true rfl) (Nat.le_of_ble_eq_true rfl) (zrec_P hb) rfl rfl (Nat.le_of_ble_eq_true rfl) rfl (fun v9 Q9 h9 => ?_)
  obtain ⟨rfl, rfl⟩ := h9
  refine z_as (st' := [va_rf (xo σ 10 (xpI w (m) (x)))]) rfl rfl rfl ?_
  exact z_aret C dX12_type_8 (Or.inl ⟨_, rfl⟩) (z_rfv _) (Nat.le_of_ble_eq_true rfl) (Nat.le_of_ble_eq_true rfl) ⟨congrArg some (rfl), rfl⟩
set_option maxRecDepth 100000 in
theorem k12_type_21 {l : Launch} {θ : zTh} {σ : xA} {w : mW} {M N : zMap} (hX : xM θ σ w (xL w) M) (hs : xS w) (hw : mWF w) (hT : zTb θ) (b : Nat) (m : Int) (x : Int) (y : Int)  (hb : M b = some (.inr (21, [.ref (σ 20 (m)), .ref (σ 0 (0)), .int (iI (x)), .ref (σ 0 (0)), .int (iI (y)), .ref (σ 0 (0))]))) (hm : 0 ≤ m ∧ m < w 11 0) (r_x : inR x) (r_y : inR y) : ZM θ l yX12_type cX12_type 1 (some (.object "ReflectMirror$Type")) ⟨2, 0, 0, 46⟩ [.ref (b)] (zP θ M N) (zFn (some (va_rf (xo σ 10 (xpI w m x)))) (zP θ M N)) := by
  refine z_start (own := RX12) (nm := "type") pnX12 rfl rfl (Nat.le_of_ble_eq_true rfl) ?_
  intro κ hκ hκl C
  change Z κ (zP θ M N) 0 0 0 [(0, .ref (b))] []
  have hS := hs.S
  have hB := hS.B
  obtain ⟨hB1, hB2, hB3, hB4, hB5, hB6⟩ := hS.B
  have hC := hS.C
  obtain ⟨h81, h82⟩ := hs.r8
  obtain ⟨f1a, f1b, f1c, f1d⟩ := hS.M (show 0 ≤ m by omega) (by omega)
  refine z_aload_n C 1 0 dX12_type_0 rfl rfl ?_
  refine z_aload_n C 2 0 dX12_type_1 rfl rfl ?_
  refine z_getf C hκ (v := .int (iI (x))) 5 2 zk_X21 hb (by decide) q810 (Or.inl rfl) rfl dX12_type_2 rfl ?_
  refine z_callU (owner := RX10) (As := [.int (iI (x))]) (rest := []) C hκ hκl 8 (k10_param_21 hX hs hw hT (b) (m) (x) (y) (x) r_x hb ⟨by omega, by omega⟩ r_x r_y) dX12_type_5 q1082 q1083 q1085 q1049 q104 q1050 rfl ⟨by decide, by decide, rfl⟩ (Nat.le_of_ble_eq_true rfl) (Nat.le_of_ble_eq_true rfl) (Nat.le_of_ble_eq_true rfl) (Nat.le_of_ble_eq_true rfl) (zrec_P hb) rfl rfl (Nat.le_of_ble_eq_true rfl) rfl (fun v9 Q9 h9 => ?_)
  obtain ⟨rfl, rfl⟩ := h9
  refine z_as (st' := [va_rf (xo σ 10 (xpI w (m) (x)))]) rfl rfl rfl ?_
  exact z_aret C dX12_type_8 (Or.inl ⟨_, rfl⟩) (z_rfv _) (Nat.le_of_ble_eq_true rfl) (Nat.le_of_ble_eq_true rfl) ⟨congrArg some (rfl), rfl⟩
set_option maxRecDepth 100000 in
theorem k13_type_13 {l : Launch} {θ : zTh} {σ : xA} {w : mW} {M N : zMap} (hX : xM θ σ w (xL w) M) (hs : xS w) (hw : mWF w) (hT : zTb θ) (b : Nat) (m : Int) (f : Int)  (hb : M b = some (.inr (13, [.ref (σ 20 (m)), .ref (σ 0 (0)), va_rf (xo σ 20 (f)), .ref (σ 0 (0))]))) (hm : 0 ≤ m ∧ m < w 11 0) (hf : -1 ≤ f ∧ f < w 11 0) (hf0 : 0 ≤ f) : ZM θ l yX13_type cX13_type 1 (some (.object "ReflectMirror$Type")) ⟨0, 0, 0, 0⟩ [.ref (b)] (zP θ M N) (zFn (some (va_rf (xo σ 10 (w 17 f)))) (zP θ M N)) := by
  refine z_start (own := RX13) (nm := "type") pnX13 rfl rfl (Nat.le_of_ble_eq_true rfl) ?_
  intro κ hκ hκl C
  change Z κ (zP θ M N) 0 0 0 [(0, .ref (b))] []
  have hS := hs.S
  have hB := hS.B
  obtain ⟨hB1, hB2, hB3, hB4, hB5, hB6⟩ := hS.B
  have hC := hS.C
  obtain ⟨h81, h82⟩ := hs.r8
  obtain ⟨f1a, f1b, f1c, f1d⟩ := hS.M (show 0 ≤ m by omega) (by omega)
  refine z_aload_n C 1 0 dX13_type_0 rfl rfl ?_
  refine z_getf C hκ (v := va_rf (xo σ 20 (f))) 4 2 zk_X13 hb (by decide) q829 (Or.inl rfl) rfl dX13_type_1 rfl ?_
  have y2 : 0 ≤ f := (by omega)
  rw [xo_y y2]
  refine z_as (st' := [.ref (σ 20 (f))]) (lv' := [(0, .ref (b))]) rfl rfl rfl ?_
  obtain ⟨f3a, f3b, f3c, f3d⟩ := hS.M (show 0 ≤ f by omega) (by omega)
  refine z_getf C hκ (v := va_rf (xo σ 10 (w 17 (f)))) 7 5 zk_X9 (hX.mem (by omega) (by omega)) (by decide) q669 (Or.inl rfl) rfl dX13_type_4 rfl ?_
  exact z_aret C dX13_type_7 (Or.inl ⟨_, rfl⟩) (z_rfv _) (Nat.le_of_ble_eq_true rfl) (Nat.le_of_ble_eq_true rfl) ⟨congrArg some (rfl), rfl⟩
set_option maxRecDepth 100000 in
theorem k16_type_16 {l : Launch} {θ : zTh} {σ : xA} {w : mW} {M N : zMap} (hX : xM θ σ w (xL w) M) (hs : xS w) (hw : mWF w) (hT : zTb θ) (b : Nat) (m : Int) (f : Int)  (hb : M b = some (.inr (16, [.ref (σ 20 (m)), .ref (σ 0 (0)), va_rf (xo σ 20 (f)), .ref (σ 0 (0))]))) (hm : 0 ≤ m ∧ m < w 11 0) (hf : -1 ≤ f ∧ f < w 11 0) (hf0 : 0 ≤ f) : ZM θ l yX16_type cX16_type 1 (some (.object "ReflectMirror$Type")) ⟨0, 0, 0, 0⟩ [.ref (b)] (zP θ M N) (zFn (some (va_rf (xo σ 10 (w 17 f)))) (zP θ M N)) := by
  refine z_start (own := RX16) (nm := "type") pnX16 rfl rfl (Nat.le_of_ble_eq_true rfl) ?_
  intro κ hκ hκl C
  change Z κ (zP θ M N) 0 0 0 [(0, .ref (b))] []
  have hS := hs.S
  have hB := hS.B
  obtain ⟨hB1, hB2, hB3, hB4, hB5, hB6⟩ := hS.B
  have hC := hS.C
  obtain ⟨h81, h82⟩ := hs.r8
  obtain ⟨f1a, f1b, f1c, f1d⟩ := hS.M (show 0 ≤ m by omega) (by omega)
  refine z_aload_n C 1 0 dX16_type_0 rfl rfl ?_
  refine z_getf C hκ (v := va_rf (xo σ 20 (f))) 4 2 zk_X16 hb (by decide) q878 (Or.inl rfl) rfl dX16_type_1 rfl ?_
  have y2 : 0 ≤ f := (by omega)
  rw [xo_y y2]
  refine z_as (st' := [.ref (σ 20 (f))]) (lv' := [(0, .ref (b))]) rfl rfl rfl ?_
  obtain ⟨f3a, f3b, f3c, f3d⟩ := hS.M (show 0 ≤ f by omega) (by omega)
  refine z_getf C hκ (v := va_rf (xo σ 10 (w 17 (f)))) 7 5 zk_X9 (hX.mem (by omega) (by omega)) (by decide) q668 (Or.inl rfl) rfl dX16_type_4 rfl ?_
  exact z_aret C dX16_type_7 (Or.inl ⟨_, rfl⟩) (z_rfv _) (Nat.le_of_ble_eq_true rfl) (Nat.le_of_ble_eq_true rfl) ⟨congrArg some (rfl), rfl⟩
set_option maxRecDepth 100000 in
theorem k16_type_18 {l : Launch} {θ : zTh} {σ : xA} {w : mW} {M N : zMap} (hX : xM θ σ w (xL w) M) (hs : xS w) (hw : mWF w) (hT : zTb θ) (b : Nat) (m : Int) (f : Int)  (hb : M b = some (.inr (18, [.ref (σ 20 (m)), .ref (σ 0 (0)), va_rf (xo σ 20 (f)), .ref (σ 0 (0)), .ref (σ 0 (0))]))) (hm : 0 ≤ m ∧ m < w 11 0) (hf : -1 ≤ f ∧ f < w 11 0) (hf0 : 0 ≤ f) : ZM θ l yX16_type cX16_type 1 (some (.object "ReflectMirror$Type")) ⟨0, 0, 0, 0⟩ [.ref (b)] (zP θ M N) (zFn (some (va_rf (xo σ 10 (w 17 f)))) (zP θ M N)) := by
  refine z_start (own := RX16) (nm := "type") pnX16 rfl rfl (Nat.le_of_ble_eq_true rfl) ?_
  intro κ hκ hκl C
  change Z κ (zP θ M N) 0 0 0 [(0, .ref (b))] []
  have hS := hs.S
  have hB := hS.B
  obtain ⟨hB1, hB2, hB3, hB4, hB5, hB6⟩ := hS.B
  have hC := hS.C
  obtain ⟨h81, h82⟩ := hs.r8
  obtain ⟨f1a, f1b, f1c, f1d⟩ := hS.M (show 0 ≤ m by omega) (by omega)
  refine z_aload_n C 1 0 dX16_type_0 rfl rfl ?_
  refine z_getf C hκ (v := va_rf (xo σ 20 (f))) 4 2 zk_X18 hb (by decide) q878 (Or.inl rfl) rfl dX16_type_1 rfl ?_
  have y2 : 0 ≤ f := (by omega)
  rw [xo_y y2]
  refine z_as (st' := [.ref (σ 20 (f))]) (lv' := [(0, .ref (b))]) rfl rfl rfl ?_
  obtain ⟨f3a, f3b, f3c, f3d⟩ := hS.M (show 0 ≤ f by omega) (by omega)
  refine z_getf C hκ (v := va_rf (xo σ 10 (w 17 (f)))) 7 5 zk_X9 (hX.mem (by omega) (by omega)) (by decide) q668 (Or.inl rfl) rfl dX16_type_4 rfl ?_
  exact z_aret C dX16_type_7 (Or.inl ⟨_, rfl⟩) (z_rfv _) (Nat.le_of_ble_eq_true rfl) (Nat.le_of_ble_eq_true rfl) ⟨congrArg some (rfl), rfl⟩
set_option maxRecDepth 100000 in
theorem k17_type_17 {l : Launch} {θ : zTh} {σ : xA} {w : mW} {M N : zMap} (hX : xM θ σ w (xL w) M) (hs : xS w) (hw : mWF w) (hT : zTb θ) (b : Nat) (m : Int) (x : Int) (y : Int)  (hb : M b = some (.inr (17, [.ref (σ 20 (m)), .ref (σ 0 (0)), .int (iI (x)), .ref (σ 0 (0)), .int (iI (y)), .ref (σ 0 (0))]))) (hm : 0 ≤ m ∧ m < w 11 0) (r_x : inR x) (r_y : inR y) (hx0 : 0 ≤ xpI w m x ∧ xpI w m x < 8) (hy0 : 0 ≤ xpI w m y ∧ xpI w m y < 8) : ZM θ l yX17_type cX17_type 1 (some (.object "ReflectMirror$Type")) ⟨2, 0, 0, 46⟩ [.ref (b)] (zP θ M N) (zFn (some (.ref (σ 10 (suI (xpI w m x) (xpI w m y))))) (zP θ M N)) := by
  refine z_start (own := RX17) (nm := "type") pnX17 rfl rfl (Nat.le_of_ble_eq_true rfl) ?_
  intro κ hκ hκl C
  change Z κ (zP θ M N) 0 0 0 [(0, .ref (b))] []
  have hS := hs.S
  have hB := hS.B
  obtain ⟨hB1, hB2, hB3, hB4, hB5, hB6⟩ := hS.B
  have hC := hS.C
  obtain ⟨h81, h82⟩ := hs.r8
  obtain ⟨f1a, f1b, f1c, f1d⟩ := hS.M (show 0 ≤ m by omega) (by omega)
  have hmx : xMx 4 (xMx (xpI w m x) (xpI w m y)) = suI (xpI w m x) (xpI w m y) := by unfold xMx suI; (repeat' split) <;> omega
  have hsu : 4 ≤ suI (xpI w m x) (xpI w m y) ∧ suI (xpI w m x) (xpI w m y) < 8 := by unfold suI; (repeat' split) <;> omega
  refine z_aload_n C 1 0 dX17_type_0 rfl rfl ?_
  refine z_getf C hκ (v := .ref (σ 0 (0))) 4 5 zk_X17 hb (by decide) q896 (Or.inl rfl) rfl dX17_type_1 rfl ?_
  refine z_getfN C hκ hT (v := .ref (σ 1 (0))) 7 0 zk_X0 hX.o (by decide) q327 (Or.inl rfl) rfl dX17_type_4 rfl ?_
  refine z_iconst C 8 dX17_type_7 rfl ?_
  refine z_aload_n C 9 0 dX17_type_8 rfl rfl ?_
  refine z_aload_n C 10 0 dX17_type_9 rfl rfl ?_
  refine z_getf C hκ (v := .int (iI (x))) 13 2 zk_X17 hb (by decide) q811 (Or.inr q812) rfl dX17_type_10 rfl ?_
  refine z_callU (owner := RX10) (As := [.int (iI (x))]) (rest := [.int (iI (4)), .ref (σ 1 (0))]) C hκ hκl 16 (k10_param_17 hX hs hw hT (b) (m) (x) (y) (x) r_x hb ⟨by omega, by omega⟩ r_x r_y) dX17_type_13 q1045 q1046 q1048 q1049 q104 q1050 rfl ⟨by decide, by decide, rfl⟩ (Nat.le_of_ble_eq_true rfl) (Nat.le_of_ble_eq_true rfl) (Nat.le_of_ble_eq_true rfl) (Nat.le_of_ble_eq_true rfl) (zrec_P hb) rfl rfl (Nat.le_of_ble_eq_true rfl) rfl (fun v9 Q9 h9 => ?_)
  obtain ⟨rfl, rfl⟩ := h9
  refine z_as (st' := [va_rf (xo σ 10 (xpI w (m) (x))), .int (iI (4)), .ref (σ 1 (0))]) rfl rfl rfl ?_
  have y2 : 0 ≤ xpI w (m) (x) := (by omega)
  rw [xo_y y2]
  refine z_as (st' := [.ref (σ 10 (xpI w (m) (x))), .int (iI (4)), .ref (σ 1 (0))]) (lv' := [(0, .ref (b))]) rfl rfl rfl ?_
  obtain ⟨f3a, f3b, f3c, f3d, f3e, f3f, f3g, f3h⟩ := hS.T (show 0 ≤ xpI w (m) (x) by omega) (by omega)
  obtain ⟨f3i, f3j, f3k, f3l⟩ := hs.ty (show 0 ≤ xpI w (m) (x) by omega) (by omega)
  refine xv_number (rest := [.int (iI (4)), .ref (σ 1 (0))]) C hκ hκl hX hs hw hT (xpI w (m) (x))   ⟨(by omega), (by omega)⟩  19 dX17_type_16 q1057 (Nat.le_of_ble_eq_true rfl) (Nat.le_of_ble_eq_true rfl) (Nat.le_of_ble_eq_true rfl) (Nat.le_of_ble_eq_true rfl) (Nat.le_of_ble_eq_true rfl) rfl ?_
  refine z_as (st' := [.int (iI ((xpI w (m) (x)))), .int (iI (4)), .ref (σ 1 (0))]) rfl rfl rfl ?_
  refine z_aload_n C 20 0 dX17_type_19 rfl rfl ?_
  refine z_aload_n C 21 0 dX17_type_20 rfl rfl ?_
  refine z_getf C hκ (v := .int (iI (y))) 24 4 zk_X17 hb (by decide) q895 (Or.inl rfl) rfl dX17_type_21 rfl ?_
  refine z_callU (owner := RX10) (As := [.int (iI (y))]) (rest := [.int (iI ((xpI w (m) (x)))), .int (iI (4)), .ref (σ 1 (0))]) C hκ hκl 27 (k10_param_17 hX hs hw hT (b) (m) (x) (y) (y) r_y hb ⟨by omega, by omega⟩ r_x r_y) dX17_type_24 q1045 q1046 q1048 q1049 q104 q1050 rfl ⟨by decide, by decide, rfl⟩ (Nat.le_of_ble_eq_true rfl) (Nat.le_of_ble_eq_true rfl) (Nat.le_of_ble_eq_true rfl) (Nat.le_of_ble_eq_true rfl) (zrec_P hb) rfl rfl (Nat.le_of_ble_eq_true rfl) rfl (fun v9 Q9 h9 => ?_)
  obtain ⟨rfl, rfl⟩ := h9
  refine z_as (st' := [va_rf (xo σ 10 (xpI w (m) (y))), .int (iI ((xpI w (m) (x)))), .int (iI (4)), .ref (σ 1 (0))]) rfl rfl rfl ?_
  have y4 : 0 ≤ xpI w (m) (y) := (by omega)
  rw [xo_y y4]
  refine z_as (st' := [.ref (σ 10 (xpI w (m) (y))), .int (iI ((xpI w (m) (x)))), .int (iI (4)), .ref (σ 1 (0))]) (lv' := [(0, .ref (b))]) rfl rfl rfl ?_
  obtain ⟨f5a, f5b, f5c, f5d, f5e, f5f, f5g, f5h⟩ := hS.T (show 0 ≤ xpI w (m) (y) by omega) (by omega)
  obtain ⟨f5i, f5j, f5k, f5l⟩ := hs.ty (show 0 ≤ xpI w (m) (y) by omega) (by omega)
  refine xv_number (rest := [.int (iI ((xpI w (m) (x)))), .int (iI (4)), .ref (σ 1 (0))]) C hκ hκl hX hs hw hT (xpI w (m) (y))   ⟨(by omega), (by omega)⟩  30 dX17_type_27 q1057 (Nat.le_of_ble_eq_true rfl) (Nat.le_of_ble_eq_true rfl) (Nat.le_of_ble_eq_true rfl) (Nat.le_of_ble_eq_true rfl) (Nat.le_of_ble_eq_true rfl) rfl ?_
  refine z_as (st' := [.int (iI ((xpI w (m) (y)))), .int (iI ((xpI w (m) (x)))), .int (iI (4)), .ref (σ 1 (0))]) rfl rfl rfl ?_
  refine z_mmax (rest := [.int (iI (4)), .ref (σ 1 (0))]) C 33 dX17_type_30 q1119 q1120 q116 q1121 (Nat.le_of_ble_eq_true rfl) (Nat.le_of_ble_eq_true rfl) (Nat.le_of_ble_eq_true rfl) (Nat.le_of_ble_eq_true rfl) ⟨by omega, by omega⟩ ⟨by omega, by omega⟩ rfl ?_
  refine z_mmax (rest := [.ref (σ 1 (0))]) C 36 dX17_type_33 q1119 q1120 q116 q1121 (Nat.le_of_ble_eq_true rfl) (Nat.le_of_ble_eq_true rfl) (Nat.le_of_ble_eq_true rfl) (Nat.le_of_ble_eq_true rfl) ⟨by decide, by decide⟩ ⟨by unfold xMx; split <;> omega, by unfold xMx; split <;> omega⟩ rfl ?_
  rw [hmx]
  refine x_aT C hκ 37 hX hs (by omega) (by omega) dX17_type_36 rfl ?_
  obtain ⟨f6a, f6b, f6c, f6d, f6e, f6f, f6g, f6h⟩ := hS.T (show 0 ≤ suI (xpI w m x) (xpI w m y) by omega) (by omega)
  obtain ⟨f6i, f6j, f6k, f6l⟩ := hs.ty (show 0 ≤ suI (xpI w m x) (xpI w m y) by omega) (by omega)
  exact z_aret C dX17_type_37 (Or.inl ⟨_, rfl⟩) (Or.inr ⟨_, rfl⟩) (Nat.le_of_ble_eq_true rfl) (Nat.le_of_ble_eq_true rfl) ⟨congrArg some (rfl), rfl⟩
set_option maxRecDepth 100000 in
theorem k21_type_21 {l : Launch} {θ : zTh} {σ : xA} {w : mW} {M N : zMap} (hX : xM θ σ w (xL w) M) (hs : xS w) (hw : mWF w) (hT : zTb θ) (b : Nat) (m : Int) (x : Int) (y : Int)  (hb : M b = some (.inr (21, [.ref (σ 20 (m)), .ref (σ 0 (0)), .int (iI (x)), .ref (σ 0 (0)), .int (iI (y)), .ref (σ 0 (0))]))) (hm : 0 ≤ m ∧ m < w 11 0) (r_x : inR x) (r_y : inR y) (hx0 : 0 ≤ xpI w m x) : ZM θ l yX21_type cX21_type 1 (some (.object "ReflectMirror$Type")) ⟨3, 0, 0, 66⟩ [.ref (b)] (zP θ M N) (zFn (some (va_rf (xo σ 10 (w 4 (xpI w m x))))) (zP θ M N)) := by
  refine z_start (own := RX21) (nm := "type") pnX21 rfl rfl (Nat.le_of_ble_eq_true rfl) ?_
  intro κ hκ hκl C
  change Z κ (zP θ M N) 0 0 0 [(0, .ref (b))] []
  have hS := hs.S
  have hB := hS.B
  obtain ⟨hB1, hB2, hB3, hB4, hB5, hB6⟩ := hS.B
  have hC := hS.C
  obtain ⟨h81, h82⟩ := hs.r8
  obtain ⟨f1a, f1b, f1c, f1d⟩ := hS.M (show 0 ≤ m by omega) (by omega)
  have hpx := xpI_r hS (i := x) hm.1 hm.2
  refine z_aload_n C 1 0 dX21_type_0 rfl rfl ?_
  refine z_callSU (As := []) (rest := []) C hκ hκl 4 (k12_type_21 hX hs hw hT (b) (m) (x) (y) hb ⟨by omega, by omega⟩ r_x r_y) dX21_type_1 q1127 q2580 q1011 q1128 q106 q1129 ⟨by decide, rfl⟩ (Nat.le_of_ble_eq_true rfl) (Nat.le_of_ble_eq_true rfl) (Nat.le_of_ble_eq_true rfl) (Nat.le_of_ble_eq_true rfl) (zrec_P hb) rfl rfl (Nat.le_of_ble_eq_true rfl) rfl (fun v9 Q9 h9 => ?_)
  obtain ⟨rfl, rfl⟩ := h9
  refine z_as (st' := [va_rf (xo σ 10 (xpI w (m) (x)))]) rfl rfl rfl ?_
  have y2 : 0 ≤ xpI w (m) (x) := (by omega)
  rw [xo_y y2]
  refine z_as (st' := [.ref (σ 10 (xpI w (m) (x)))]) (lv' := [(0, .ref (b))]) rfl rfl rfl ?_
  obtain ⟨f3a, f3b, f3c, f3d, f3e, f3f, f3g, f3h⟩ := hS.T (show 0 ≤ xpI w (m) (x) by omega) (by omega)
  obtain ⟨f3i, f3j, f3k, f3l⟩ := hs.ty (show 0 ≤ xpI w (m) (x) by omega) (by omega)
  refine xv_of (rest := []) C hκ hκl hX hs hw hT (xpI w (m) (x))   ⟨(by omega), (by omega)⟩  7 dX21_type_4 q1090 (Nat.le_of_ble_eq_true rfl) (Nat.le_of_ble_eq_true rfl) (Nat.le_of_ble_eq_true rfl) (Nat.le_of_ble_eq_true rfl) (Nat.le_of_ble_eq_true rfl) rfl ?_
  refine z_as (st' := [va_rf (xo σ 10 (w 4 (xpI w (m) (x))))]) rfl rfl rfl ?_
  exact z_aret C dX21_type_7 (Or.inl ⟨_, rfl⟩) (z_rfv _) (Nat.le_of_ble_eq_true rfl) (Nat.le_of_ble_eq_true rfl) ⟨congrArg some (rfl), rfl⟩
set_option maxRecDepth 100000 in
theorem k10_kind_11 {l : Launch} {θ : zTh} {σ : xA} {w : mW} {M N : zMap} (hX : xM θ σ w (xL w) M) (hs : xS w) (hw : mWF w) (hT : zTb θ) (b : Nat) (m : Int)  (hb : M b = some (.inr (11, [.ref (σ 20 (m)), .ref (σ 0 (0)), .ref (σ 0 (0))]))) (hm : 0 ≤ m ∧ m < w 11 0) : ZM θ l yX10_kind cX10_kind 1 (some .int) ⟨0, 0, 0, 0⟩ [.ref (b)] (zP θ M N) (zFn (some (.int (iI (0)))) (zP θ M N)) := by
  refine z_start (own := RX10) (nm := "kind") pnX10 rfl rfl (Nat.le_of_ble_eq_true rfl) ?_
  intro κ hκ hκl C
  change Z κ (zP θ M N) 0 0 0 [(0, .ref (b))] []
  have hS := hs.S
  have hB := hS.B
  obtain ⟨hB1, hB2, hB3, hB4, hB5, hB6⟩ := hS.B
  have hC := hS.C
  obtain ⟨h81, h82⟩ := hs.r8
  obtain ⟨f1a, f1b, f1c, f1d⟩ := hS.M (show 0 ≤ m by omega) (by omega)
  refine z_iconst C 1 dX10_kind_0 rfl ?_
  exact z_iret C dX10_kind_1 rfl (Nat.le_of_ble_eq_true rfl) (Nat.le_of_ble_eq_true rfl) ⟨congrArg (fun z => some (Value.int (iI z))) (rfl), rfl⟩
set_option maxRecDepth 100000 in
theorem k12_kind_12 {l : Launch} {θ : zTh} {σ : xA} {w : mW} {M N : zMap} (hX : xM θ σ w (xL w) M) (hs : xS w) (hw : mWF w) (hT : zTb θ) (b : Nat) (m : Int) (x : Int)  (hb : M b = some (.inr (12, [.ref (σ 20 (m)), .ref (σ 0 (0)), .int (iI (x)), .ref (σ 0 (0))]))) (hm : 0 ≤ m ∧ m < w 11 0) (r_x : inR x) : ZM θ l yX12_kind cX12_kind 1 (some .int) ⟨0, 0, 0, 0⟩ [.ref (b)] (zP θ M N) (zFn (some (.int (iI (1)))) (zP θ M N)) := by
  refine z_start (own := RX12) (nm := "kind") pnX12 rfl rfl (Nat.le_of_ble_eq_true rfl) ?_
  intro κ hκ hκl C
  change Z κ (zP θ M N) 0 0 0 [(0, .ref (b))] []
  have hS := hs.S
  have hB := hS.B
  obtain ⟨hB1, hB2, hB3, hB4, hB5, hB6⟩ := hS.B
  have hC := hS.C
  obtain ⟨h81, h82⟩ := hs.r8
  obtain ⟨f1a, f1b, f1c, f1d⟩ := hS.M (show 0 ≤ m by omega) (by omega)
  refine z_iconst C 1 dX12_kind_0 rfl ?_
  exact z_iret C dX12_kind_1 rfl (Nat.le_of_ble_eq_true rfl) (Nat.le_of_ble_eq_true rfl) ⟨congrArg (fun z => some (Value.int (iI z))) (rfl), rfl⟩
set_option maxRecDepth 100000 in
theorem k13_kind_13 {l : Launch} {θ : zTh} {σ : xA} {w : mW} {M N : zMap} (hX : xM θ σ w (xL w) M) (hs : xS w) (hw : mWF w) (hT : zTb θ) (b : Nat) (m : Int) (f : Int)  (hb : M b = some (.inr (13, [.ref (σ 20 (m)), .ref (σ 0 (0)), va_rf (xo σ 20 (f)), .ref (σ 0 (0))]))) (hm : 0 ≤ m ∧ m < w 11 0) (hf : -1 ≤ f ∧ f < w 11 0) : ZM θ l yX13_kind cX13_kind 1 (some .int) ⟨0, 0, 0, 0⟩ [.ref (b)] (zP θ M N) (zFn (some (.int (iI (2)))) (zP θ M N)) := by
  refine z_start (own := RX13) (nm := "kind") pnX13 rfl rfl (Nat.le_of_ble_eq_true rfl) ?_
  intro κ hκ hκl C
  change Z κ (zP θ M N) 0 0 0 [(0, .ref (b))] []
  have hS := hs.S
  have hB := hS.B
  obtain ⟨hB1, hB2, hB3, hB4, hB5, hB6⟩ := hS.B
  have hC := hS.C
  obtain ⟨h81, h82⟩ := hs.r8
  obtain ⟨f1a, f1b, f1c, f1d⟩ := hS.M (show 0 ≤ m by omega) (by omega)
  refine z_iconst C 1 dX13_kind_0 rfl ?_
  exact z_iret C dX13_kind_1 rfl (Nat.le_of_ble_eq_true rfl) (Nat.le_of_ble_eq_true rfl) ⟨congrArg (fun z => some (Value.int (iI z))) (rfl), rfl⟩
set_option maxRecDepth 100000 in
theorem k14_kind_14 {l : Launch} {θ : zTh} {σ : xA} {w : mW} {M N : zMap} (hX : xM θ σ w (xL w) M) (hs : xS w) (hw : mWF w) (hT : zTb θ) (b : Nat) (m : Int) (f : Int) (y : Int)  (hb : M b = some (.inr (14, [.ref (σ 20 (m)), .ref (σ 0 (0)), va_rf (xo σ 20 (f)), .ref (σ 0 (0)), .int (iI (y)), .ref (σ 0 (0))]))) (hm : 0 ≤ m ∧ m < w 11 0) (hf : -1 ≤ f ∧ f < w 11 0) (r_y : inR y) : ZM θ l yX14_kind cX14_kind 1 (some .int) ⟨0, 0, 0, 0⟩ [.ref (b)] (zP θ M N) (zFn (some (.int (iI (3)))) (zP θ M N)) := by
  refine z_start (own := RX14) (nm := "kind") pnX14 rfl rfl (Nat.le_of_ble_eq_true rfl) ?_
  intro κ hκ hκl C
  change Z κ (zP θ M N) 0 0 0 [(0, .ref (b))] []
  have hS := hs.S
  have hB := hS.B
  obtain ⟨hB1, hB2, hB3, hB4, hB5, hB6⟩ := hS.B
  have hC := hS.C
  obtain ⟨h81, h82⟩ := hs.r8
  obtain ⟨f1a, f1b, f1c, f1d⟩ := hS.M (show 0 ≤ m by omega) (by omega)
  refine z_iconst C 1 dX14_kind_0 rfl ?_
  exact z_iret C dX14_kind_1 rfl (Nat.le_of_ble_eq_true rfl) (Nat.le_of_ble_eq_true rfl) ⟨congrArg (fun z => some (Value.int (iI z))) (rfl), rfl⟩
set_option maxRecDepth 100000 in
theorem k15_kind_15 {l : Launch} {θ : zTh} {σ : xA} {w : mW} {M N : zMap} (hX : xM θ σ w (xL w) M) (hs : xS w) (hw : mWF w) (hT : zTb θ) (b : Nat) (m : Int) (x : Int)  (hb : M b = some (.inr (15, [.ref (σ 20 (m)), .ref (σ 0 (0)), .int (iI (x)), .ref (σ 0 (0))]))) (hm : 0 ≤ m ∧ m < w 11 0) (r_x : inR x) : ZM θ l yX15_kind cX15_kind 1 (some .int) ⟨0, 0, 0, 0⟩ [.ref (b)] (zP θ M N) (zFn (some (.int (iI (4)))) (zP θ M N)) := by
  refine z_start (own := RX15) (nm := "kind") pnX15 rfl rfl (Nat.le_of_ble_eq_true rfl) ?_
  intro κ hκ hκl C
  change Z κ (zP θ M N) 0 0 0 [(0, .ref (b))] []
  have hS := hs.S
  have hB := hS.B
  obtain ⟨hB1, hB2, hB3, hB4, hB5, hB6⟩ := hS.B
  have hC := hS.C
  obtain ⟨h81, h82⟩ := hs.r8
  obtain ⟨f1a, f1b, f1c, f1d⟩ := hS.M (show 0 ≤ m by omega) (by omega)
  refine z_iconst C 1 dX15_kind_0 rfl ?_
  exact z_iret C dX15_kind_1 rfl (Nat.le_of_ble_eq_true rfl) (Nat.le_of_ble_eq_true rfl) ⟨congrArg (fun z => some (Value.int (iI z))) (rfl), rfl⟩
set_option maxRecDepth 100000 in
theorem k16_kind_16 {l : Launch} {θ : zTh} {σ : xA} {w : mW} {M N : zMap} (hX : xM θ σ w (xL w) M) (hs : xS w) (hw : mWF w) (hT : zTb θ) (b : Nat) (m : Int) (f : Int)  (hb : M b = some (.inr (16, [.ref (σ 20 (m)), .ref (σ 0 (0)), va_rf (xo σ 20 (f)), .ref (σ 0 (0))]))) (hm : 0 ≤ m ∧ m < w 11 0) (hf : -1 ≤ f ∧ f < w 11 0) : ZM θ l yX16_kind cX16_kind 1 (some .int) ⟨0, 0, 0, 0⟩ [.ref (b)] (zP θ M N) (zFn (some (.int (iI (5)))) (zP θ M N)) := by
  refine z_start (own := RX16) (nm := "kind") pnX16 rfl rfl (Nat.le_of_ble_eq_true rfl) ?_
  intro κ hκ hκl C
  change Z κ (zP θ M N) 0 0 0 [(0, .ref (b))] []
  have hS := hs.S
  have hB := hS.B
  obtain ⟨hB1, hB2, hB3, hB4, hB5, hB6⟩ := hS.B
  have hC := hS.C
  obtain ⟨h81, h82⟩ := hs.r8
  obtain ⟨f1a, f1b, f1c, f1d⟩ := hS.M (show 0 ≤ m by omega) (by omega)
  refine z_iconst C 1 dX16_kind_0 rfl ?_
  exact z_iret C dX16_kind_1 rfl (Nat.le_of_ble_eq_true rfl) (Nat.le_of_ble_eq_true rfl) ⟨congrArg (fun z => some (Value.int (iI z))) (rfl), rfl⟩
set_option maxRecDepth 100000 in
theorem k17_kind_17 {l : Launch} {θ : zTh} {σ : xA} {w : mW} {M N : zMap} (hX : xM θ σ w (xL w) M) (hs : xS w) (hw : mWF w) (hT : zTb θ) (b : Nat) (m : Int) (x : Int) (y : Int)  (hb : M b = some (.inr (17, [.ref (σ 20 (m)), .ref (σ 0 (0)), .int (iI (x)), .ref (σ 0 (0)), .int (iI (y)), .ref (σ 0 (0))]))) (hm : 0 ≤ m ∧ m < w 11 0) (r_x : inR x) (r_y : inR y) : ZM θ l yX17_kind cX17_kind 1 (some .int) ⟨0, 0, 0, 0⟩ [.ref (b)] (zP θ M N) (zFn (some (.int (iI (6)))) (zP θ M N)) := by
  refine z_start (own := RX17) (nm := "kind") pnX17 rfl rfl (Nat.le_of_ble_eq_true rfl) ?_
  intro κ hκ hκl C
  change Z κ (zP θ M N) 0 0 0 [(0, .ref (b))] []
  have hS := hs.S
  have hB := hS.B
  obtain ⟨hB1, hB2, hB3, hB4, hB5, hB6⟩ := hS.B
  have hC := hS.C
  obtain ⟨h81, h82⟩ := hs.r8
  obtain ⟨f1a, f1b, f1c, f1d⟩ := hS.M (show 0 ≤ m by omega) (by omega)
  refine z_bipush C 2 dX17_kind_0 (by decide) rfl ?_
  exact z_iret C dX17_kind_2 rfl (Nat.le_of_ble_eq_true rfl) (Nat.le_of_ble_eq_true rfl) ⟨congrArg (fun z => some (Value.int (iI z))) (rfl), rfl⟩
set_option maxRecDepth 100000 in
theorem k18_kind_18 {l : Launch} {θ : zTh} {σ : xA} {w : mW} {M N : zMap} (hX : xM θ σ w (xL w) M) (hs : xS w) (hw : mWF w) (hT : zTb θ) (b : Nat) (m : Int) (f : Int)  (hb : M b = some (.inr (18, [.ref (σ 20 (m)), .ref (σ 0 (0)), va_rf (xo σ 20 (f)), .ref (σ 0 (0)), .ref (σ 0 (0))]))) (hm : 0 ≤ m ∧ m < w 11 0) (hf : -1 ≤ f ∧ f < w 11 0) : ZM θ l yX18_kind cX18_kind 1 (some .int) ⟨0, 0, 0, 0⟩ [.ref (b)] (zP θ M N) (zFn (some (.int (iI (7)))) (zP θ M N)) := by
  refine z_start (own := RX18) (nm := "kind") pnX18 rfl rfl (Nat.le_of_ble_eq_true rfl) ?_
  intro κ hκ hκl C
  change Z κ (zP θ M N) 0 0 0 [(0, .ref (b))] []
  have hS := hs.S
  have hB := hS.B
  obtain ⟨hB1, hB2, hB3, hB4, hB5, hB6⟩ := hS.B
  have hC := hS.C
  obtain ⟨h81, h82⟩ := hs.r8
  obtain ⟨f1a, f1b, f1c, f1d⟩ := hS.M (show 0 ≤ m by omega) (by omega)
  refine z_bipush C 2 dX18_kind_0 (by decide) rfl ?_
  exact z_iret C dX18_kind_2 rfl (Nat.le_of_ble_eq_true rfl) (Nat.le_of_ble_eq_true rfl) ⟨congrArg (fun z => some (Value.int (iI z))) (rfl), rfl⟩
set_option maxRecDepth 100000 in
theorem k21_kind_21 {l : Launch} {θ : zTh} {σ : xA} {w : mW} {M N : zMap} (hX : xM θ σ w (xL w) M) (hs : xS w) (hw : mWF w) (hT : zTb θ) (b : Nat) (m : Int) (x : Int) (y : Int)  (hb : M b = some (.inr (21, [.ref (σ 20 (m)), .ref (σ 0 (0)), .int (iI (x)), .ref (σ 0 (0)), .int (iI (y)), .ref (σ 0 (0))]))) (hm : 0 ≤ m ∧ m < w 11 0) (r_x : inR x) (r_y : inR y) : ZM θ l yX21_kind cX21_kind 1 (some .int) ⟨0, 0, 0, 0⟩ [.ref (b)] (zP θ M N) (zFn (some (.int (iI (8)))) (zP θ M N)) := by
  refine z_start (own := RX21) (nm := "kind") pnX21 rfl rfl (Nat.le_of_ble_eq_true rfl) ?_
  intro κ hκ hκl C
  change Z κ (zP θ M N) 0 0 0 [(0, .ref (b))] []
  have hS := hs.S
  have hB := hS.B
  obtain ⟨hB1, hB2, hB3, hB4, hB5, hB6⟩ := hS.B
  have hC := hS.C
  obtain ⟨h81, h82⟩ := hs.r8
  obtain ⟨f1a, f1b, f1c, f1d⟩ := hS.M (show 0 ≤ m by omega) (by omega)
  refine z_bipush C 2 dX21_kind_0 (by decide) rfl ?_
  exact z_iret C dX21_kind_2 rfl (Nat.le_of_ble_eq_true rfl) (Nat.le_of_ble_eq_true rfl) ⟨congrArg (fun z => some (Value.int (iI z))) (rfl), rfl⟩
