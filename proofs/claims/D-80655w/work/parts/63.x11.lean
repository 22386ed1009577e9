theorem and_at {cb b : Bool} {p : Nat → Bool} {n k : Nat} (hk : k ≤ n) (hb : b = (cb && allN p k)) (h : b = false ∨ n ≤ k) : b = (cb && allN p n) := by
  rcases h with h | h
  · rw [h]
    symm
    apply Bool.eq_false_iff.mpr
    intro z
    rw [Bool.and_eq_true] at z
    have := allN_mono (k := k) hk z.2
    rw [z.1, this] at hb
    rw [hb] at h; cases h
  · have e : k = n := by omega
    subst e; exact hb
theorem inB_x {w : mW} (m i : Int) : inB w m i = decide (1 ≤ xpI w m i ∧ xpI w m i ≤ 7) := by
  unfold inB xpI ipB
  by_cases h : 0 ≤ i ∧ i < w 18 m
  · rw [if_pos (decide_eq_true h)]; simp [h]
  · rw [if_neg (by simpa using h), decide_eq_false (fun z => h z.1), decide_eq_false (by omega)]
def xWl (w : mW) (m f : Int) : Bool := decide (0 ≤ f) && (!mb w 16 f && (decide (w 18 f ≤ w 18 m) && reB w m f))
/-- whether a body is such as told, by its class, its number, the member it found -/
def xWe (w : mW) (m : Int) (v : Nat) (x y f : Int) : Bool :=
  if v = 12 then ipB w m x else if v = 13 then decide (0 ≤ f) && (mb w 16 f && reB w m f) else if v = 14 then (decide (0 ≤ f) && (mb w 16 f && reB w m f)) && (ipB w m y && giB w (xpI w m y) (w 17 f)) else if v = 15 then decide (1 ≤ x ∧ x ≤ 8)
  else if v = 16 then xWl w m f && allN (mcP w m f) (w 18 f).toNat else if v = 17 then inB w m x && inB w m y else if v = 18 then decide (0 ≤ f) && (!hasB w m 4 && ((!hasB w f 4 && !prB w f) && !hasB w f 16))
  else if v = 21 then ipB w m x && (decide (0 ≤ w 4 (xpI w m x)) && (ipB w m y && giB w (xpI w m y) 4)) else true
def xWt (w : mW) (m : Int) (v : Nat) (x y f : Int) : Int :=
  if v = 12 then xpI w m x else if v = 13 then w 17 f else if v = 16 then w 17 f else if v = 17 then suI (xpI w m x) (xpI w m y) else if v = 18 then w 17 f else if v = 21 then w 4 (xpI w m x) else -1

set_option maxRecDepth 100000 in
theorem k10_isWell_11 {l : Launch} {θ : zTh} {σ : xA} {w : mW} {M N : zMap} (hX : xM θ σ w (xL w) M) (hs : xS w) (hw : mWF w) (hT : zTb θ) (b : Nat) (m : Int)  (hb : M b = some (.inr (11, [.ref (σ 20 (m)), .ref (σ 0 (0)), .ref (σ 0 (0))]))) (hm : 0 ≤ m ∧ m < w 11 0) : ZM θ l yX10_isWell cX10_isWell 1 (some .boolean) ⟨0, 0, 0, 0⟩ [.ref (b)] (zP θ M N) (zFn (some (.int (iI (bI (xWe w m 11 0 0 0))))) (zP θ M N)) := by
  refine z_start (own := RX10) (nm := "isWell") pnX10 rfl rfl (Nat.le_of_ble_eq_true rfl) ?_
  intro κ hκ hκl C
  change Z κ (zP θ M N) 0 0 0 [(0, .ref (b))] []
  have hS := hs.S
  have hB := hS.B
  obtain ⟨hB1, hB2, hB3, hB4, hB5, hB6⟩ := hS.B
  have hC := hS.C
  obtain ⟨h81, h82⟩ := hs.r8
  obtain ⟨f1a, f1b, f1c, f1d⟩ := hS.M (show 0 ≤ m by omega) (by omega)
  refine z_iconst C 1 dX10_isWell_0 rfl ?_
  refine z_as (st' := [.int (iI (bI (true)))]) rfl rfl rfl ?_
  exact z_iret C dX10_isWell_1 (bI_nar _) (Nat.le_of_ble_eq_true rfl) (Nat.le_of_ble_eq_true rfl) ⟨congrArg (fun b => some (Value.int (iI (bI b)))) (rfl), rfl⟩
set_option maxRecDepth 100000 in
theorem k12_isWell_12 {l : Launch} {θ : zTh} {σ : xA} {w : mW} {M N : zMap} (hX : xM θ σ w (xL w) M) (hs : xS w) (hw : mWF w) (hT : zTb θ) (b : Nat) (m : Int) (x : Int)  (hb : M b = some (.inr (12, [.ref (σ 20 (m)), .ref (σ 0 (0)), .int (iI (x)), .ref (σ 0 (0))]))) (hm : 0 ≤ m ∧ m < w 11 0) (r_x : inR x) : ZM θ l yX12_isWell cX12_isWell 1 (some .boolean) ⟨2, 0, 0, 46⟩ [.ref (b)] (zP θ M N) (zFn (some (.int (iI (bI (ipB w m x))))) (zP θ M N)) := by
  refine z_start (own := RX12) (nm := "isWell") pnX12 rfl rfl (Nat.le_of_ble_eq_true rfl) ?_
  intro κ hκ hκl C
  change Z κ (zP θ M N) 0 0 0 [(0, .ref (b))] []
  have hS := hs.S
  have hB := hS.B
  obtain ⟨hB1, hB2, hB3, hB4, hB5, hB6⟩ := hS.B
  have hC := hS.C
  obtain ⟨h81, h82⟩ := hs.r8
  obtain ⟨f1a, f1b, f1c, f1d⟩ := hS.M (show 0 ≤ m by omega) (by omega)
  have hp2 := xpI_r hS (i := x) hm.1 hm.2
  have hi3 := xpI_i (i := x) hS hm.1 hm.2
  refine z_aload_n C 1 0 dX12_isWell_0 rfl rfl ?_
  refine z_aload_n C 2 0 dX12_isWell_1 rfl rfl ?_
  refine z_getf C hκ (v := .int (iI (x))) 5 2 zk_X12 hb (by decide) q810 (Or.inl rfl) rfl dX12_isWell_2 rfl ?_
  refine z_callU (owner := RX10) (As := [.int (iI (x))]) (rest := []) C hκ hκl 8 (k10_param_12 hX hs hw hT (b) (m) (x) (x) r_x hb ⟨by omega, by omega⟩ r_x) dX12_isWell_5 q1082 q1083 q1086 q1049 q104 q1050 rfl ⟨by decide, by decide, rfl⟩ (Nat.le_of_ble_eq_true rfl) (Nat.le_of_ble_eq_true rfl) (Nat.le_of_ble_eq_true rfl) (Nat.le_of_ble_eq_true rfl) (zrec_P hb) rfl rfl (Nat.le_of_ble_eq_true rfl) rfl (fun v9 Q9 h9 => ?_)
  obtain ⟨rfl, rfl⟩ := h9
  refine z_as (st' := [va_rf (xo σ 10 (xpI w (m) (x)))]) rfl rfl rfl ?_
  rcases Int.lt_or_le (xpI w (m) (x)) 0 with n4 | n4
  · skip
    rw [xo_n n4]
    refine z_as (st' := [.null]) (lv' := [(0, .ref (b))]) rfl rfl rfl ?_
    refine z_ifnullN C 15 dX12_isWell_8 (by decide) ?_
    refine z_iconst C 16 dX12_isWell_15 rfl ?_
    refine z_as (st' := [.int (iI (bI (false)))]) rfl rfl rfl ?_
    exact z_iret C dX12_isWell_16 (bI_nar _) (Nat.le_of_ble_eq_true rfl) (Nat.le_of_ble_eq_true rfl) ⟨congrArg (fun b => some (Value.int (iI (bI b)))) (by clear C hκ hκl hS hB hB1 hB2 hB3 hB4 hB5 hB6 hC hw hX hs hT h81 h82 f1a f1b f1c f1d; simp_all <;> omega), rfl⟩
  · skip
    rw [xo_y n4]
    refine z_as (st' := [.ref (σ 10 (xpI w (m) (x)))]) (lv' := [(0, .ref (b))]) rfl rfl rfl ?_
    refine z_ifnull C 11 dX12_isWell_8 rfl ?_
    refine z_iconst C 12 dX12_isWell_11 rfl ?_
    refine z_goto C 16 dX12_isWell_12 (by decide) ?_
    refine z_as (st' := [.int (iI (bI (true)))]) rfl rfl rfl ?_
    exact z_iret C dX12_isWell_16 (bI_nar _) (Nat.le_of_ble_eq_true rfl) (Nat.le_of_ble_eq_true rfl) ⟨congrArg (fun b => some (Value.int (iI (bI b)))) (by clear C hκ hκl hS hB hB1 hB2 hB3 hB4 hB5 hB6 hC hw hX hs hT h81 h82 f1a f1b f1c f1d; simp_all <;> omega), rfl⟩
set_option maxRecDepth 100000 in
theorem k12_isWell_21 {l : Launch} {θ : zTh} {σ : xA} {w : mW} {M N : zMap} (hX : xM θ σ w (xL w) M) (hs : xS w) (hw : mWF w) (hT : zTb θ) (b : Nat) (m : Int) (x : Int) (y : Int)  (hb : M b = some (.inr (21, [.ref (σ 20 (m)), .ref (σ 0 (0)), .int (iI (x)), .ref (σ 0 (0)), .int (iI (y)), .ref (σ 0 (0))]))) (hm : 0 ≤ m ∧ m < w 11 0) (r_x : inR x) (r_y : inR y) : ZM θ l yX12_isWell cX12_isWell 1 (some .boolean) ⟨2, 0, 0, 46⟩ [.ref (b)] (zP θ M N) (zFn (some (.int (iI (bI (ipB w m x))))) (zP θ M N)) := by
  refine z_start (own := RX12) (nm := "isWell") pnX12 rfl rfl (Nat.le_of_ble_eq_true rfl) ?_
  intro κ hκ hκl C
  change Z κ (zP θ M N) 0 0 0 [(0, .ref (b))] []
  have hS := hs.S
  have hB := hS.B
  obtain ⟨hB1, hB2, hB3, hB4, hB5, hB6⟩ := hS.B
  have hC := hS.C
  obtain ⟨h81, h82⟩ := hs.r8
  obtain ⟨f1a, f1b, f1c, f1d⟩ := hS.M (show 0 ≤ m by omega) (by omega)
  have hp2 := xpI_r hS (i := x) hm.1 hm.2
  have hi3 := xpI_i (i := x) hS hm.1 hm.2
  refine z_aload_n C 1 0 dX12_isWell_0 rfl rfl ?_
  refine z_aload_n C 2 0 dX12_isWell_1 rfl rfl ?_
  refine z_getf C hκ (v := .int (iI (x))) 5 2 zk_X21 hb (by decide) q810 (Or.inl rfl) rfl dX12_isWell_2 rfl ?_
  refine z_callU (owner := RX10) (As := [.int (iI (x))]) (rest := []) C hκ hκl 8 (k10_param_21 hX hs hw hT (b) (m) (x) (y) (x) r_x hb ⟨by omega, by omega⟩ r_x r_y) dX12_isWell_5 q1082 q1083 q1085 q1049 q104 q1050 rfl ⟨by decide, by decide, rfl⟩ (Nat.le_of_ble_eq_true rfl) (Nat.le_of_ble_eq_true rfl) (Nat.le_of_ble_eq_true rfl) (Nat.le_of_ble_eq_true rfl) (zrec_P hb) rfl rfl (Nat.le_of_ble_eq_true rfl) rfl (fun v9 Q9 h9 => ?_)
  obtain ⟨rfl, rfl⟩ := h9
  refine z_as (st' := [va_rf (xo σ 10 (xpI w (m) (x)))]) rfl rfl rfl ?_
  rcases Int.lt_or_le (xpI w (m) (x)) 0 with n4 | n4
  · skip
    rw [xo_n n4]
    refine z_as (st' := [.null]) (lv' := [(0, .ref (b))]) rfl rfl rfl ?_
    refine z_ifnullN C 15 dX12_isWell_8 (by decide) ?_
    refine z_iconst C 16 dX12_isWell_15 rfl ?_
    refine z_as (st' := [.int (iI (bI (false)))]) rfl rfl rfl ?_
    exact z_iret C dX12_isWell_16 (bI_nar _) (Nat.le_of_ble_eq_true rfl) (Nat.le_of_ble_eq_true rfl) ⟨congrArg (fun b => some (Value.int (iI (bI b)))) (by clear C hκ hκl hS hB hB1 hB2 hB3 hB4 hB5 hB6 hC hw hX hs hT h81 h82 f1a f1b f1c f1d; simp_all <;> omega), rfl⟩
  · skip
    rw [xo_y n4]
    refine z_as (st' := [.ref (σ 10 (xpI w (m) (x)))]) (lv' := [(0, .ref (b))]) rfl rfl rfl ?_
    refine z_ifnull C 11 dX12_isWell_8 rfl ?_
    refine z_iconst C 12 dX12_isWell_11 rfl ?_
    refine z_goto C 16 dX12_isWell_12 (by decide) ?_
    refine z_as (st' := [.int (iI (bI (true)))]) rfl rfl rfl ?_
    exact z_iret C dX12_isWell_16 (bI_nar _) (Nat.le_of_ble_eq_true rfl) (Nat.le_of_ble_eq_true rfl) ⟨congrArg (fun b => some (Value.int (iI (bI b)))) (by clear C hκ hκl hS hB hB1 hB2 hB3 hB4 hB5 hB6 hC hw hX hs hT h81 h82 f1a f1b f1c f1d; simp_all <;> omega), rfl⟩
set_option maxRecDepth 100000 in
theorem k13_isWell_13 {l : Launch} {θ : zTh} {σ : xA} {w : mW} {M N : zMap} (hX : xM θ σ w (xL w) M) (hs : xS w) (hw : mWF w) (hT : zTb θ) (b : Nat) (m : Int) (f : Int)  (hb : M b = some (.inr (13, [.ref (σ 20 (m)), .ref (σ 0 (0)), va_rf (xo σ 20 (f)), .ref (σ 0 (0))]))) (hm : 0 ≤ m ∧ m < w 11 0) (hf : -1 ≤ f ∧ f < w 11 0) : ZM θ l yX13_isWell cX13_isWell 1 (some .boolean) ⟨248, 0, 0, 2551⟩ [.ref (b)] (zP θ M N) (zFn (some (.int (iI (bI (decide (0 ≤ f) && (mb w 16 f && reB w m f)))))) (zP θ M N)) := by
  refine z_start (own := RX13) (nm := "isWell") pnX13 rfl rfl (Nat.le_of_ble_eq_true rfl) ?_
  intro κ hκ hκl C
  change Z κ (zP θ M N) 0 0 0 [(0, .ref (b))] []
  have hS := hs.S
  have hB := hS.B
  obtain ⟨hB1, hB2, hB3, hB4, hB5, hB6⟩ := hS.B
  have hC := hS.C
  obtain ⟨h81, h82⟩ := hs.r8
  obtain ⟨f1a, f1b, f1c, f1d⟩ := hS.M (show 0 ≤ m by omega) (by omega)
  refine z_aload_n C 1 0 dX13_isWell_0 rfl rfl ?_
  refine z_getf C hκ (v := va_rf (xo σ 20 (f))) 4 2 zk_X13 hb (by decide) q829 (Or.inl rfl) rfl dX13_isWell_1 rfl ?_
  rcases Int.lt_or_le (f) 0 with n2 | n2
  · skip
    rw [xo_n n2]
    refine z_as (st' := [.null]) (lv' := [(0, .ref (b))]) rfl rfl rfl ?_
    refine z_ifnullN C 32 dX13_isWell_4 (by decide) ?_
    refine z_iconst C 33 dX13_isWell_32 rfl ?_
    refine z_as (st' := [.int (iI (bI (false)))]) rfl rfl rfl ?_
    exact z_iret C dX13_isWell_33 (bI_nar _) (Nat.le_of_ble_eq_true rfl) (Nat.le_of_ble_eq_true rfl) ⟨congrArg (fun b => some (Value.int (iI (bI b)))) (by clear C hκ hκl hS hB hB1 hB2 hB3 hB4 hB5 hB6 hC hw hX hs hT h81 h82 f1a f1b f1c f1d; first | (simp_all; done) | (simp_all <;> omega) | grind), rfl⟩
  · skip
    rw [xo_y n2]
    refine z_as (st' := [.ref (σ 20 (f))]) (lv' := [(0, .ref (b))]) rfl rfl rfl ?_
    refine z_ifnull C 7 dX13_isWell_4 rfl ?_
    refine z_aload_n C 8 0 dX13_isWell_7 rfl rfl ?_
    refine z_getf C hκ (v := va_rf (xo σ 20 (f))) 11 2 zk_X13 hb (by decide) q829 (Or.inl rfl) rfl dX13_isWell_8 rfl ?_
    have y3 : 0 ≤ f := (by omega)
    rw [xo_y y3]
    refine z_as (st' := [.ref (σ 20 (f))]) (lv' := [(0, .ref (b))]) rfl rfl rfl ?_
    obtain ⟨f4a, f4b, f4c, f4d⟩ := hS.M (show 0 ≤ f by omega) (by omega)
    refine z_getf C hκ (v := .int (iI (bI (mb w 16 (f))))) 14 4 zk_X9 (hX.mem (by omega) (by omega)) (by decide) q666 (Or.inl rfl) rfl dX13_isWell_11 rfl ?_
    refine z_ifB_eq C 32 17 dX13_isWell_14 (by decide) rfl (fun c5 => ?_) (fun c5 => ?_)
    · skip
      have c5b : ¬ (w 16 (f) = 1) := of_decide_eq_false c5
      refine z_iconst C 33 dX13_isWell_32 rfl ?_
      refine z_as (st' := [.int (iI (bI (false)))]) rfl rfl rfl ?_
      exact z_iret C dX13_isWell_33 (bI_nar _) (Nat.le_of_ble_eq_true rfl) (Nat.le_of_ble_eq_true rfl) ⟨congrArg (fun b => some (Value.int (iI (bI b)))) (by clear C hκ hκl hS hB hB1 hB2 hB3 hB4 hB5 hB6 hC hw hX hs hT h81 h82 f1a f1b f1c f1d f4a f4b f4c f4d; first | (simp_all; done) | (simp_all <;> omega) | grind), rfl⟩
    · skip
      have c5b : (w 16 (f) = 1) := of_decide_eq_true c5
      refine z_aload_n C 18 0 dX13_isWell_17 rfl rfl ?_
      refine z_aload_n C 19 0 dX13_isWell_18 rfl rfl ?_
      refine z_getf C hκ (v := va_rf (xo σ 20 (f))) 22 2 zk_X13 hb (by decide) q829 (Or.inl rfl) rfl dX13_isWell_19 rfl ?_
      have y6 : 0 ≤ f := (by omega)
      rw [xo_y y6]
      refine z_as (st' := [.ref (σ 20 (f)), .ref (b)]) (lv' := [(0, .ref (b))]) rfl rfl rfl ?_
      refine z_callU (owner := RX10) (As := [.ref (σ 20 (f))]) (rest := []) C hκ hκl 25 (k10_isNear_13 hX hs hw hT (b) (m) (f) (f) hb ⟨by omega, by omega⟩ ⟨by omega, by omega⟩ ⟨by omega, by omega⟩) dX13_isWell_22 q1097 q1098 q1099 q1066 q104 q1067 rfl ⟨by decide, by decide, rfl⟩ (Nat.le_of_ble_eq_true rfl) (Nat.le_of_ble_eq_true rfl) (Nat.le_of_ble_eq_true rfl) (Nat.le_of_ble_eq_true rfl) (zrec_P hb) rfl rfl (Nat.le_of_ble_eq_true rfl) rfl (fun v9 Q9 h9 => ?_)
      obtain ⟨rfl, rfl⟩ := h9
      refine z_as (st' := [.int (iI (bI (reB w (m) (f))))]) rfl rfl rfl ?_
      refine z_ifB_eq C 32 28 dX13_isWell_25 (by decide) rfl (fun c7 => ?_) (fun c7 => ?_)
      · skip
        refine z_iconst C 33 dX13_isWell_32 rfl ?_
        refine z_as (st' := [.int (iI (bI (false)))]) rfl rfl rfl ?_
        exact z_iret C dX13_isWell_33 (bI_nar _) (Nat.le_of_ble_eq_true rfl) (Nat.le_of_ble_eq_true rfl) ⟨congrArg (fun b => some (Value.int (iI (bI b)))) (by clear C hκ hκl hS hB hB1 hB2 hB3 hB4 hB5 hB6 hC hw hX hs hT h81 h82 f1a f1b f1c f1d f4a f4b f4c f4d; first | (simp_all; done) | (simp_all <;> omega) | grind), rfl⟩
      · skip
        refine z_iconst C 29 dX13_isWell_28 rfl ?_
        refine z_goto C 33 dX13_isWell_29 (by decide) ?_
        refine z_as (st' := [.int (iI (bI (true)))]) rfl rfl rfl ?_
        exact z_iret C dX13_isWell_33 (bI_nar _) (Nat.le_of_ble_eq_true rfl) (Nat.le_of_ble_eq_true rfl) ⟨congrArg (fun b => some (Value.int (iI (bI b)))) (by clear C hκ hκl hS hB hB1 hB2 hB3 hB4 hB5 hB6 hC hw hX hs hT h81 h82 f1a f1b f1c f1d f4a f4b f4c f4d; first | (simp_all; done) | (simp_all <;> omega) | grind), rfl⟩
set_option maxRecDepth 100000 in
theorem k13_isWell_14 {l : Launch} {θ : zTh} {σ : xA} {w : mW} {M N : zMap} (hX : xM θ σ w (xL w) M) (hs : xS w) (hw : mWF w) (hT : zTb θ) (b : Nat) (m : Int) (f : Int) (y : Int)  (hb : M b = some (.inr (14, [.ref (σ 20 (m)), .ref (σ 0 (0)), va_rf (xo σ 20 (f)), .ref (σ 0 (0)), .int (iI (y)), .ref (σ 0 (0))]))) (hm : 0 ≤ m ∧ m < w 11 0) (hf : -1 ≤ f ∧ f < w 11 0) (r_y : inR y) : ZM θ l yX13_isWell cX13_isWell 1 (some .boolean) ⟨248, 0, 0, 2551⟩ [.ref (b)] (zP θ M N) (zFn (some (.int (iI (bI (decide (0 ≤ f) && (mb w 16 f && reB w m f)))))) (zP θ M N)) := by
  refine z_start (own := RX13) (nm := "isWell") pnX13 rfl rfl (Nat.le_of_ble_eq_true rfl) ?_
  intro κ hκ hκl C
  change Z κ (zP θ M N) 0 0 0 [(0, .ref (b))] []
  have hS := hs.S
  have hB := hS.B
  obtain ⟨hB1, hB2, hB3, hB4, hB5, hB6⟩ := hS.B
  have hC := hS.C
  obtain ⟨h81, h82⟩ := hs.r8
  obtain ⟨f1a, f1b, f1c, f1d⟩ := hS.M (show 0 ≤ m by omega) (by omega)
  refine z_aload_n C 1 0 dX13_isWell_0 rfl rfl ?_
  refine z_getf C hκ (v := va_rf (xo σ 20 (f))) 4 2 zk_X14 hb (by decide) q829 (Or.inl rfl) rfl dX13_isWell_1 rfl ?_
  rcases Int.lt_or_le (f) 0 with n2 | n2
  · skip
    rw [xo_n n2]
    refine z_as (st' := [.null]) (lv' := [(0, .ref (b))]) rfl rfl rfl ?_
    refine z_ifnullN C 32 dX13_isWell_4 (by decide) ?_
    refine z_iconst C 33 dX13_isWell_32 rfl ?_
    refine z_as (st' := [.int (iI (bI (false)))]) rfl rfl rfl ?_
    exact z_iret C dX13_isWell_33 (bI_nar _) (Nat.le_of_ble_eq_true rfl) (Nat.le_of_ble_eq_true rfl) ⟨congrArg (fun b => some (Value.int (iI (bI b)))) (by clear C hκ hκl hS hB hB1 hB2 hB3 hB4 hB5 hB6 hC hw hX hs hT h81 h82 f1a f1b f1c f1d; first | (simp_all; done) | (simp_all <;> omega) | grind), rfl⟩
  · skip
    rw [xo_y n2]
    refine z_as (st' := [.ref (σ 20 (f))]) (lv' := [(0, .ref (b))]) rfl rfl rfl ?_
    refine z_ifnull C 7 dX13_isWell_4 rfl ?_
    refine z_aload_n C 8 0 dX13_isWell_7 rfl rfl ?_
    refine z_getf C hκ (v := va_rf (xo σ 20 (f))) 11 2 zk_X14 hb (by decide) q829 (Or.inl rfl) rfl dX13_isWell_8 rfl ?_
    have y3 : 0 ≤ f := (by omega)
    rw [xo_y y3]
    refine z_as (st' := [.ref (σ 20 (f))]) (lv' := [(0, .ref (b))]) rfl rfl rfl ?_
    obtain ⟨f4a, f4b, f4c, f4d⟩ := hS.M (show 0 ≤ f by omega) (by omega)
    refine z_getf C hκ (v := .int (iI (bI (mb w 16 (f))))) 14 4 zk_X9 (hX.mem (by omega) (by omega)) (by decide) q666 (Or.inl rfl) rfl dX13_isWell_11 rfl ?_
    refine z_ifB_eq C 32 17 dX13_isWell_14 (by decide) rfl (fun c5 => ?_) (fun c5 => ?_)
    · skip
      have c5b : ¬ (w 16 (f) = 1) := of_decide_eq_false c5
      refine z_iconst C 33 dX13_isWell_32 rfl ?_
      refine z_as (st' := [.int (iI (bI (false)))]) rfl rfl rfl ?_
      exact z_iret C dX13_isWell_33 (bI_nar _) (Nat.le_of_ble_eq_true rfl) (Nat.le_of_ble_eq_true rfl) ⟨congrArg (fun b => some (Value.int (iI (bI b)))) (by clear C hκ hκl hS hB hB1 hB2 hB3 hB4 hB5 hB6 hC hw hX hs hT h81 h82 f1a f1b f1c f1d f4a f4b f4c f4d; first | (simp_all; done) | (simp_all <;> omega) | grind), rfl⟩
    · skip
      have c5b : (w 16 (f) = 1) := of_decide_eq_true c5
      refine z_aload_n C 18 0 dX13_isWell_17 rfl rfl ?_
      refine z_aload_n C 19 0 dX13_isWell_18 rfl rfl ?_
      refine z_getf C hκ (v := va_rf (xo σ 20 (f))) 22 2 zk_X14 hb (by decide) q829 (Or.inl rfl) rfl dX13_isWell_19 rfl ?_
      have y6 : 0 ≤ f := (by omega)
      rw [xo_y y6]
      refine z_as (st' := [.ref (σ 20 (f)), .ref (b)]) (lv' := [(0, .ref (b))]) rfl rfl rfl ?_
      refine z_callU (owner := RX10) (As := [.ref (σ 20 (f))]) (rest := []) C hκ hκl 25 (k10_isNear_14 hX hs hw hT (b) (m) (f) (y) (f) hb ⟨by omega, by omega⟩ ⟨by omega, by omega⟩ r_y ⟨by omega, by omega⟩) dX13_isWell_22 q1097 q1098 q1100 q1066 q104 q1067 rfl ⟨by decide, by decide, rfl⟩ (Nat.le_of_ble_eq_true rfl) (Nat.le_of_ble_eq_true rfl) (Nat.le_of_ble_eq_true rfl) (Nat.le_of_ble_eq_true rfl) (zrec_P hb) rfl rfl (Nat.le_of_ble_eq_true rfl) rfl (fun v9 Q9 h9 => ?_)
      obtain ⟨rfl, rfl⟩ := h9
      refine z_as (st' := [.int (iI (bI (reB w (m) (f))))]) rfl rfl rfl ?_
      refine z_ifB_eq C 32 28 dX13_isWell_25 (by decide) rfl (fun c7 => ?_) (fun c7 => ?_)
      · skip
        refine z_iconst C 33 dX13_isWell_32 rfl ?_
        refine z_as (st' := [.int (iI (bI (false)))]) rfl rfl rfl ?_
        exact z_iret C dX13_isWell_33 (bI_nar _) (Nat.le_of_ble_eq_true rfl) (Nat.le_of_ble_eq_true rfl) ⟨congrArg (fun b => some (Value.int (iI (bI b)))) (by clear C hκ hκl hS hB hB1 hB2 hB3 hB4 hB5 hB6 hC hw hX hs hT h81 h82 f1a f1b f1c f1d f4a f4b f4c f4d; first | (simp_all; done) | (simp_all <;> omega) | grind), rfl⟩
      · skip
        refine z_iconst C 29 dX13_isWell_28 rfl ?_
        refine z_goto C 33 dX13_isWell_29 (by decide) ?_
        refine z_as (st' := [.int (iI (bI (true)))]) rfl rfl rfl ?_
        exact z_iret C dX13_isWell_33 (bI_nar _) (Nat.le_of_ble_eq_true rfl) (Nat.le_of_ble_eq_true rfl) ⟨congrArg (fun b => some (Value.int (iI (bI b)))) (by clear C hκ hκl hS hB hB1 hB2 hB3 hB4 hB5 hB6 hC hw hX hs hT h81 h82 f1a f1b f1c f1d f4a f4b f4c f4d; first | (simp_all; done) | (simp_all <;> omega) | grind), rfl⟩
set_option maxRecDepth 100000 in
theorem k14_isWell_14 {l : Launch} {θ : zTh} {σ : xA} {w : mW} {M N : zMap} (hX : xM θ σ w (xL w) M) (hs : xS w) (hw : mWF w) (hT : zTb θ) (b : Nat) (m : Int) (f : Int) (y : Int)  (hb : M b = some (.inr (14, [.ref (σ 20 (m)), .ref (σ 0 (0)), va_rf (xo σ 20 (f)), .ref (σ 0 (0)), .int (iI (y)), .ref (σ 0 (0))]))) (hm : 0 ≤ m ∧ m < w 11 0) (hf : -1 ≤ f ∧ f < w 11 0) (r_y : inR y) (h17 : ∀ f : Int, 0 ≤ f → f < w 11 0 → w 16 f = 1 → 0 ≤ w 17 f) : ZM θ l yX14_isWell cX14_isWell 1 (some .boolean) ⟨249, 0, 0, 2571⟩ [.ref (b)] (zP θ M N) (zFn (some (.int (iI (bI (xWe w m 14 0 y f))))) (zP θ M N)) := by
  refine z_start (own := RX14) (nm := "isWell") pnX14 rfl rfl (Nat.le_of_ble_eq_true rfl) ?_
  intro κ hκ hκl C
  change Z κ (zP θ M N) 0 0 0 [(0, .ref (b))] []
  have hS := hs.S
  have hB := hS.B
  obtain ⟨hB1, hB2, hB3, hB4, hB5, hB6⟩ := hS.B
  have hC := hS.C
  obtain ⟨h81, h82⟩ := hs.r8
  obtain ⟨f1a, f1b, f1c, f1d⟩ := hS.M (show 0 ≤ m by omega) (by omega)
  have hp2 := xpI_r hS (i := y) hm.1 hm.2
  have hi3 := xpI_i (i := y) hS hm.1 hm.2
  have h17' := h17 f
  refine z_aload_n C 1 0 dX14_isWell_0 rfl rfl ?_
  refine z_callSU (As := []) (rest := []) C hκ hκl 4 (k13_isWell_14 hX hs hw hT (b) (m) (f) (y) hb ⟨by omega, by omega⟩ ⟨by omega, by omega⟩ r_y) dX14_isWell_1 q1104 q2579 q856 q1095 q107 q1096 ⟨by decide, rfl⟩ (Nat.le_of_ble_eq_true rfl) (Nat.le_of_ble_eq_true rfl) (Nat.le_of_ble_eq_true rfl) (Nat.le_of_ble_eq_true rfl) (zrec_P hb) rfl rfl (Nat.le_of_ble_eq_true rfl) rfl (fun v9 Q9 h9 => ?_)
  obtain ⟨rfl, rfl⟩ := h9
  refine z_as (st' := [.int (iI (bI (decide (0 ≤ (f)) && (mb w 16 (f) && reB w (m) (f)))))]) rfl rfl rfl ?_
  refine z_ifB_eq C 43 7 dX14_isWell_4 (by decide) rfl (fun c4 => ?_) (fun c4 => ?_)
  · skip
    refine z_iconst C 44 dX14_isWell_43 rfl ?_
    refine z_as (st' := [.int (iI (bI (false)))]) rfl rfl rfl ?_
    exact z_iret C dX14_isWell_44 (bI_nar _) (Nat.le_of_ble_eq_true rfl) (Nat.le_of_ble_eq_true rfl) ⟨congrArg (fun b => some (Value.int (iI (bI b)))) (by clear C hκ hκl hS hB hB1 hB2 hB3 hB4 hB5 hB6 hC hw hX hs hT h81 h82 f1a f1b f1c f1d; clear h17 h17'; unfold xWe; simp only [Nat.reduceEqDiff, if_true, if_false, reduceIte]; all_goals first | (simp_all; done) | (simp_all <;> omega) | grind), rfl⟩
  · skip
    have hf9 : 0 ≤ f ∧ mb w 16 f = true := by simp_all
    have h17f := h17 f hf9.1 (by omega) (by simpa using hf9.2)
    refine z_aload_n C 8 0 dX14_isWell_7 rfl rfl ?_
    refine z_aload_n C 9 0 dX14_isWell_8 rfl rfl ?_
    refine z_getf C hκ (v := .int (iI (y))) 12 4 zk_X14 hb (by decide) q846 (Or.inl rfl) rfl dX14_isWell_9 rfl ?_
    refine z_callU (owner := RX10) (As := [.int (iI (y))]) (rest := []) C hκ hκl 15 (k10_param_14 hX hs hw hT (b) (m) (f) (y) (y) r_y hb ⟨by omega, by omega⟩ ⟨by omega, by omega⟩ r_y) dX14_isWell_12 q1105 q1106 q1107 q1049 q104 q1050 rfl ⟨by decide, by decide, rfl⟩ (Nat.le_of_ble_eq_true rfl) (Nat.le_of_ble_eq_true rfl) (Nat.le_of_ble_eq_true rfl) (Nat.le_of_ble_eq_true rfl) (zrec_P hb) rfl rfl (Nat.le_of_ble_eq_true rfl) rfl (fun v9 Q9 h9 => ?_)
    obtain ⟨rfl, rfl⟩ := h9
    refine z_as (st' := [va_rf (xo σ 10 (xpI w (m) (y)))]) rfl rfl rfl ?_
    rcases Int.lt_or_le (xpI w (m) (y)) 0 with n5 | n5
    · skip
      rw [xo_n n5]
      refine z_as (st' := [.null]) (lv' := [(0, .ref (b))]) rfl rfl rfl ?_
      refine z_ifnullN C 43 dX14_isWell_15 (by decide) ?_
      refine z_iconst C 44 dX14_isWell_43 rfl ?_
      refine z_as (st' := [.int (iI (bI (false)))]) rfl rfl rfl ?_
      exact z_iret C dX14_isWell_44 (bI_nar _) (Nat.le_of_ble_eq_true rfl) (Nat.le_of_ble_eq_true rfl) ⟨congrArg (fun b => some (Value.int (iI (bI b)))) (by clear C hκ hκl hS hB hB1 hB2 hB3 hB4 hB5 hB6 hC hw hX hs hT h81 h82 f1a f1b f1c f1d; clear h17 h17'; unfold xWe; simp only [Nat.reduceEqDiff, if_true, if_false, reduceIte]; all_goals first | (simp_all; done) | (simp_all <;> omega) | grind), rfl⟩
    · skip
      rw [xo_y n5]
      refine z_as (st' := [.ref (σ 10 (xpI w (m) (y)))]) (lv' := [(0, .ref (b))]) rfl rfl rfl ?_
      refine z_ifnull C 18 dX14_isWell_15 rfl ?_
      refine z_aload_n C 19 0 dX14_isWell_18 rfl rfl ?_
      refine z_aload_n C 20 0 dX14_isWell_19 rfl rfl ?_
      refine z_getf C hκ (v := .int (iI (y))) 23 4 zk_X14 hb (by decide) q846 (Or.inl rfl) rfl dX14_isWell_20 rfl ?_
      refine z_callU (owner := RX10) (As := [.int (iI (y))]) (rest := []) C hκ hκl 26 (k10_param_14 hX hs hw hT (b) (m) (f) (y) (y) r_y hb ⟨by omega, by omega⟩ ⟨by omega, by omega⟩ r_y) dX14_isWell_23 q1105 q1106 q1107 q1049 q104 q1050 rfl ⟨by decide, by decide, rfl⟩ (Nat.le_of_ble_eq_true rfl) (Nat.le_of_ble_eq_true rfl) (Nat.le_of_ble_eq_true rfl) (Nat.le_of_ble_eq_true rfl) (zrec_P hb) rfl rfl (Nat.le_of_ble_eq_true rfl) rfl (fun v9 Q9 h9 => ?_)
      obtain ⟨rfl, rfl⟩ := h9
      refine z_as (st' := [va_rf (xo σ 10 (xpI w (m) (y)))]) rfl rfl rfl ?_
      refine z_aload_n C 27 0 dX14_isWell_26 rfl rfl ?_
      refine z_getf C hκ (v := va_rf (xo σ 20 (f))) 30 2 zk_X14 hb (by decide) q830 (Or.inr q831) rfl dX14_isWell_27 rfl ?_
      have y6 : 0 ≤ f := (by omega)
      rw [xo_y y6]
      refine z_as (st' := [.ref (σ 20 (f)), va_rf (xo σ 10 (xpI w (m) (y)))]) (lv' := [(0, .ref (b))]) rfl rfl rfl ?_
      obtain ⟨f7a, f7b, f7c, f7d⟩ := hS.M (show 0 ≤ f by omega) (by omega)
      refine z_getf C hκ (v := va_rf (xo σ 10 (w 17 (f)))) 33 5 zk_X9 (hX.mem (by omega) (by omega)) (by decide) q670 (Or.inl rfl) rfl dX14_isWell_30 rfl ?_
      have y8 : 0 ≤ xpI w (m) (y) := (by omega)
      rw [xo_y y8]
      refine z_as (st' := [va_rf (xo σ 10 (w 17 (f))), .ref (σ 10 (xpI w (m) (y)))]) (lv' := [(0, .ref (b))]) rfl rfl rfl ?_
      have y9 : 0 ≤ w 17 (f) := (by omega)
      rw [xo_y y9]
      refine z_as (st' := [.ref (σ 10 (w 17 (f))), .ref (σ 10 (xpI w (m) (y)))]) (lv' := [(0, .ref (b))]) rfl rfl rfl ?_
      obtain ⟨f10a, f10b, f10c, f10d, f10e, f10f, f10g, f10h⟩ := hS.T (show 0 ≤ xpI w (m) (y) by omega) (by omega)
      obtain ⟨f10i, f10j, f10k, f10l⟩ := hs.ty (show 0 ≤ xpI w (m) (y) by omega) (by omega)
      obtain ⟨f11a, f11b, f11c, f11d, f11e, f11f, f11g, f11h⟩ := hS.T (show 0 ≤ w 17 (f) by omega) (by omega)
      obtain ⟨f11i, f11j, f11k, f11l⟩ := hs.ty (show 0 ≤ w 17 (f) by omega) (by omega)
      refine xv_is (rest := []) C hκ hκl hX hs hw hT (xpI w (m) (y)) (w 17 (f)) ⟨(by omega), (by omega)⟩ ⟨(by omega), (by omega)⟩ 36 dX14_isWell_33 q1108 (Nat.le_of_ble_eq_true rfl) (Nat.le_of_ble_eq_true rfl) (Nat.le_of_ble_eq_true rfl) (Nat.le_of_ble_eq_true rfl) (Nat.le_of_ble_eq_true rfl) rfl ?_
      refine z_as (st' := [.int (iI (bI (giB w (xpI w (m) (y)) (w 17 (f)))))]) rfl rfl rfl ?_
      refine z_ifB_eq C 43 39 dX14_isWell_36 (by decide) rfl (fun c12 => ?_) (fun c12 => ?_)
      · skip
        refine z_iconst C 44 dX14_isWell_43 rfl ?_
        refine z_as (st' := [.int (iI (bI (false)))]) rfl rfl rfl ?_
        exact z_iret C dX14_isWell_44 (bI_nar _) (Nat.le_of_ble_eq_true rfl) (Nat.le_of_ble_eq_true rfl) ⟨congrArg (fun b => some (Value.int (iI (bI b)))) (by clear C hκ hκl hS hB hB1 hB2 hB3 hB4 hB5 hB6 hC hw hX hs hT h81 h82 f1a f1b f1c f1d f7a f7b f7c f7d f10a f10b f10c f10d f10e f10f f10g f10h f10i f10j f10k f10l f11a f11b f11c f11d f11e f11f f11g f11h f11i f11j f11k f11l; clear h17 h17'; unfold xWe; simp only [Nat.reduceEqDiff, if_true, if_false, reduceIte]; all_goals first | (simp_all; done) | (simp_all <;> omega) | grind), rfl⟩
      · skip
        refine z_iconst C 40 dX14_isWell_39 rfl ?_
        refine z_goto C 44 dX14_isWell_40 (by decide) ?_
        refine z_as (st' := [.int (iI (bI (true)))]) rfl rfl rfl ?_
        exact z_iret C dX14_isWell_44 (bI_nar _) (Nat.le_of_ble_eq_true rfl) (Nat.le_of_ble_eq_true rfl) ⟨congrArg (fun b => some (Value.int (iI (bI b)))) (by clear C hκ hκl hS hB hB1 hB2 hB3 hB4 hB5 hB6 hC hw hX hs hT h81 h82 f1a f1b f1c f1d f7a f7b f7c f7d f10a f10b f10c f10d f10e f10f f10g f10h f10i f10j f10k f10l f11a f11b f11c f11d f11e f11f f11g f11h f11i f11j f11k f11l; clear h17 h17'; unfold xWe; simp only [Nat.reduceEqDiff, if_true, if_false, reduceIte]; all_goals first | (simp_all; done) | (simp_all <;> omega) | grind), rfl⟩
set_option maxRecDepth 100000 in
theorem k15_isWell_15 {l : Launch} {θ : zTh} {σ : xA} {w : mW} {M N : zMap} (hX : xM θ σ w (xL w) M) (hs : xS w) (hw : mWF w) (hT : zTb θ) (b : Nat) (m : Int) (x : Int)  (hb : M b = some (.inr (15, [.ref (σ 20 (m)), .ref (σ 0 (0)), .int (iI (x)), .ref (σ 0 (0))]))) (hm : 0 ≤ m ∧ m < w 11 0) (r_x : inR x) : ZM θ l yX15_isWell cX15_isWell 1 (some .boolean) ⟨1, 0, 0, 25⟩ [.ref (b)] (zP θ M N) (zFn (some (.int (iI (bI (xWe w m 15 x 0 0))))) (zP θ M N)) := by
  refine z_start (own := RX15) (nm := "isWell") pnX15 rfl rfl (Nat.le_of_ble_eq_true rfl) ?_
  intro κ hκ hκl C
  change Z κ (zP θ M N) 0 0 0 [(0, .ref (b))] []
  have hS := hs.S
  have hB := hS.B
  obtain ⟨hB1, hB2, hB3, hB4, hB5, hB6⟩ := hS.B
  have hC := hS.C
  obtain ⟨h81, h82⟩ := hs.r8
  obtain ⟨f1a, f1b, f1c, f1d⟩ := hS.M (show 0 ≤ m by omega) (by omega)
  refine z_aload_n C 1 0 dX15_isWell_0 rfl rfl ?_
  refine z_getf C hκ (v := .int (iI (x))) 4 2 zk_X15 hb (by decide) q863 (Or.inl rfl) rfl dX15_isWell_1 rfl ?_
  refine z_i2l C 5 dX15_isWell_4 r_x rfl ?_
  refine z_lconst (x := 1) C 6 dX15_isWell_5 rfl rfl ?_
  refine z_ldc2 (z := 8) C 9 dX15_isWell_6 q1074 (by decide) rfl ?_
  refine z_callSN (As := [.long (lI (x)), .long (lI (1)), .long (lI (8))]) (rest := []) C hκ hκl hT 12 (k0_isIn hT (x) (1) (8) (inR_L r_x) ⟨by decide, by decide⟩ ⟨by decide, by decide⟩) dX15_isWell_9 q1075 q379 q90 q380 (zNd_of znX0_isIn) (Nat.le_of_ble_eq_true rfl) (Nat.le_of_ble_eq_true rfl) (Nat.le_of_ble_eq_true rfl) (Nat.le_of_ble_eq_true rfl) rfl (Nat.le_of_ble_eq_true rfl) rfl (fun v9 Q9 h9 => ?_)
  obtain ⟨rfl, rfl⟩ := h9
  refine z_as (st' := [.int (iI (bI (decide ((1) ≤ (x) ∧ (x) ≤ (8)))))]) rfl rfl rfl ?_
  exact z_iret C dX15_isWell_12 (bI_nar _) (Nat.le_of_ble_eq_true rfl) (Nat.le_of_ble_eq_true rfl) ⟨congrArg (fun b => some (Value.int (iI (bI b)))) (by clear C hκ hκl hS hB hB1 hB2 hB3 hB4 hB5 hB6 hC hw hX hs hT h81 h82 f1a f1b f1c f1d; show _ = xWe w m 15 x 0 0; unfold xWe; simp only [Nat.reduceEqDiff, if_true, if_false, reduceIte]; all_goals first | rfl | (simp_all; done) | (simp_all <;> omega) | grind), rfl⟩
set_option maxRecDepth 100000 in
theorem k16_isWell_16 {l : Launch} {θ : zTh} {σ : xA} {w : mW} {M N : zMap} (hX : xM θ σ w (xL w) M) (hs : xS w) (hw : mWF w) (hT : zTb θ) (b : Nat) (m : Int) (f : Int)  (hb : M b = some (.inr (16, [.ref (σ 20 (m)), .ref (σ 0 (0)), va_rf (xo σ 20 (f)), .ref (σ 0 (0))]))) (hm : 0 ≤ m ∧ m < w 11 0) (hf : -1 ≤ f ∧ f < w 11 0) : ZM θ l yX16_isWell cX16_isWell 3 (some .boolean) ⟨248, 0, 0, 2551⟩ [.ref (b)] (zP θ M N) (zFn (some (.int (iI (bI (xWl w m f && allN (mcP w m f) (w 18 f).toNat))))) (zP θ M N)) := by
  refine z_start (own := RX16) (nm := "isWell") pnX16 rfl rfl (Nat.le_of_ble_eq_true rfl) ?_
  intro κ hκ hκl C
  change Z κ (zP θ M N) 0 0 0 [(0, .ref (b))] []
  have hS := hs.S
  have hB := hS.B
  obtain ⟨hB1, hB2, hB3, hB4, hB5, hB6⟩ := hS.B
  have hC := hS.C
  obtain ⟨h81, h82⟩ := hs.r8
  obtain ⟨f1a, f1b, f1c, f1d⟩ := hS.M (show 0 ≤ m by omega) (by omega)
  have L53_2 : ∀ (fu : Nat) (k : Nat) (bo : Bool) (hk : k ≤ (w 18 f).toNat) (hbo : bo = (xWl w m f && allN (mcP w m f) k)) (he : bo = true → 0 ≤ f ∧ w 18 f ≤ w 18 m) (hme : (w 18 f).toNat - k < fu), Z κ (zP θ M N) 0 0 53 [(0, .ref (b)), (1, .int (iI (bI (bo)))), (2, .int (iI ((k : Int))))] [] := by
    intro fu
    induction fu with
    | zero => intro k bo hk hbo he hme; exact absurd hme (Nat.not_lt_zero _)
    | succ fu ih3 =>
      intro k bo hk hbo he hme
      refine z_iload_n C 54 1 dX16_isWell_53 rfl rfl ?_
      refine z_ifB_eq C 96 57 dX16_isWell_54 (by decide) rfl (fun c4 => ?_) (fun c4 => ?_)
      · skip
        refine z_iload_n C 97 1 dX16_isWell_96 rfl rfl ?_
        exact z_iret C dX16_isWell_97 (bI_nar _) (Nat.le_of_ble_eq_true rfl) (Nat.le_of_ble_eq_true rfl) ⟨congrArg (fun b => some (Value.int (iI (bI b)))) (and_at hk hbo (by first | exact Or.inl (by assumption) | exact Or.inr (by have := (hS.M hef.1 hf.2).2.1; omega))), rfl⟩
      · skip
        have hef := he (by assumption)
        obtain ⟨f5a, f5b, f5c, f5d⟩ := hS.M (show 0 ≤ f by omega) (by omega)
        refine z_iload_n C 58 2 dX16_isWell_57 rfl rfl ?_
        refine z_aload_n C 59 0 dX16_isWell_58 rfl rfl ?_
        refine z_getf C hκ (v := va_rf (xo σ 20 (f))) 62 2 zk_X16 hb (by decide) q878 (Or.inl rfl) rfl dX16_isWell_59 rfl ?_
        have y6 : 0 ≤ f := (by omega)
        rw [xo_y y6]
        refine z_as (st' := [.ref (σ 20 (f)), .int (iI ((k : Int)))]) (lv' := [(0, .ref (b)), (1, .int (iI (bI (bo)))), (2, .int (iI ((k : Int))))]) rfl rfl rfl ?_
        refine z_getf C hκ (v := .int (iI (w 18 (f)))) 65 7 zk_X9 (hX.mem (by omega) (by omega)) (by decide) q677 (Or.inl rfl) rfl dX16_isWell_62 rfl ?_
        refine z_icmp_ge C 96 68 dX16_isWell_65 (by decide) ⟨by omega, by omega⟩ (hw.r _ _ rfl) rfl (fun c7 => ?_) (fun c7 => ?_)
        · skip
          refine z_iload_n C 97 1 dX16_isWell_96 rfl rfl ?_
          exact z_iret C dX16_isWell_97 (bI_nar _) (Nat.le_of_ble_eq_true rfl) (Nat.le_of_ble_eq_true rfl) ⟨congrArg (fun b => some (Value.int (iI (bI b)))) (and_at hk hbo (by first | exact Or.inl (by assumption) | exact Or.inr (by have := (hS.M hef.1 hf.2).2.1; omega))), rfl⟩
        · skip
          refine z_aload_n C 69 0 dX16_isWell_68 rfl rfl ?_
          refine z_getf C hκ (v := .ref (σ 20 (m))) 72 0 zk_X16 hb (by decide) q775 (Or.inr q776) rfl dX16_isWell_69 rfl ?_
          refine z_getf C hκ (v := .ref (σ 21 (m))) 75 6 zk_X9 (hX.mem (by omega) (by omega)) (by decide) q674 (Or.inl rfl) rfl dX16_isWell_72 rfl ?_
          refine z_iload_n C 76 2 dX16_isWell_75 rfl rfl ?_
          refine x_apm C hκ 77 hX hs (by omega) (by omega) (by omega) (by omega) dX16_isWell_76 rfl ?_
          refine z_aload_n C 78 0 dX16_isWell_77 rfl rfl ?_
          refine z_getf C hκ (v := va_rf (xo σ 20 (f))) 81 2 zk_X16 hb (by decide) q878 (Or.inl rfl) rfl dX16_isWell_78 rfl ?_
          have y8 : 0 ≤ f := (by omega)
          rw [xo_y y8]
          refine z_as (st' := [.ref (σ 20 (f)), .ref (σ 10 (w 19 (3 * (m) + ((k : Int)))))]) (lv' := [(0, .ref (b)), (1, .int (iI (bI (bo)))), (2, .int (iI ((k : Int))))]) rfl rfl rfl ?_
          refine z_getf C hκ (v := .ref (σ 21 (f))) 84 6 zk_X9 (hX.mem (by omega) (by omega)) (by decide) q674 (Or.inl rfl) rfl dX16_isWell_81 rfl ?_
          refine z_iload_n C 85 2 dX16_isWell_84 rfl rfl ?_
          refine x_apm C hκ 86 hX hs (by omega) (by omega) (by omega) (by omega) dX16_isWell_85 rfl ?_
          have hz1 := (hS.M hm.1 hm.2).2.2.2 k (by omega) (by omega)
          have hz2 := (hS.M hef.1 hf.2).2.2.2 k (by omega) (by omega)
          obtain ⟨f9a, f9b, f9c, f9d, f9e, f9f, f9g, f9h⟩ := hS.T (show 0 ≤ w 19 (3 * (m) + ((k : Int))) by omega) (by omega)
          obtain ⟨f9i, f9j, f9k, f9l⟩ := hs.ty (show 0 ≤ w 19 (3 * (m) + ((k : Int))) by omega) (by omega)
          obtain ⟨f10a, f10b, f10c, f10d, f10e, f10f, f10g, f10h⟩ := hS.T (show 0 ≤ w 19 (3 * (f) + ((k : Int))) by omega) (by omega)
          obtain ⟨f10i, f10j, f10k, f10l⟩ := hs.ty (show 0 ≤ w 19 (3 * (f) + ((k : Int))) by omega) (by omega)
          refine xv_is (rest := []) C hκ hκl hX hs hw hT (w 19 (3 * (m) + ((k : Int)))) (w 19 (3 * (f) + ((k : Int)))) ⟨(by omega), (by omega)⟩ ⟨(by omega), (by omega)⟩ 89 dX16_isWell_86 q1070 (Nat.le_of_ble_eq_true rfl) (Nat.le_of_ble_eq_true rfl) (Nat.le_of_ble_eq_true rfl) (Nat.le_of_ble_eq_true rfl) (Nat.le_of_ble_eq_true rfl) rfl ?_
          refine z_as (st' := [.int (iI (bI (giB w (w 19 (3 * (m) + ((k : Int)))) (w 19 (3 * (f) + ((k : Int)))))))]) rfl rfl rfl ?_
          refine z_istore_n (lv' := [(0, .ref (b)), (1, .int (iI (bI (giB w (w 19 (3 * (m) + ((k : Int)))) (w 19 (3 * (f) + ((k : Int)))))))), (2, .int (iI ((k : Int))))]) C 90 [1, 0, 2] dX16_isWell_89 (by decide) rfl rfl ?_
          refine z_iinc (lv' := [(0, .ref (b)), (1, .int (iI (bI (giB w (w 19 (3 * (m) + ((k : Int)))) (w 19 (3 * (f) + ((k : Int)))))))), (2, .int (iI (((k : Int)) + 1)))]) C 93 2 [1, 2, 0] dX16_isWell_90 rfl (by decide) rfl rfl ?_
          refine z_goto C 53 dX16_isWell_93 (by decide) ?_
          refine z_as (lv' := [(0, .ref (b)), (1, .int (iI (bI ((giB w (w 19 (3 * (m) + ((k : Int)))) (w 19 (3 * (f) + ((k : Int))))))))), (2, .int (iI (((k + 1) : Int))))]) rfl rfl rfl ?_
          exact ih3 (k + 1) (giB w (w 19 (3 * (m) + ((k : Int)))) (w 19 (3 * (f) + ((k : Int))))) (by omega) (by simp only [allN]; rw [← Bool.and_assoc, ← hbo, show bo = true by assumption]; rfl) (fun _ => he (by assumption)) (by omega)
  refine z_aload_n C 1 0 dX16_isWell_0 rfl rfl ?_
  refine z_getf C hκ (v := va_rf (xo σ 20 (f))) 4 2 zk_X16 hb (by decide) q878 (Or.inl rfl) rfl dX16_isWell_1 rfl ?_
  rcases Int.lt_or_le (f) 0 with n11 | n11
  · skip
    rw [xo_n n11]
    refine z_as (st' := [.null]) (lv' := [(0, .ref (b))]) rfl rfl rfl ?_
    refine z_ifnullN C 49 dX16_isWell_4 (by decide) ?_
    refine z_iconst C 50 dX16_isWell_49 rfl ?_
    refine z_istore_n (lv' := [(0, .ref (b)), (1, .int (iI (0)))]) C 51 [1, 0] dX16_isWell_50 (by decide) rfl rfl ?_
    refine z_iconst C 52 dX16_isWell_51 rfl ?_
    refine z_istore_n (lv' := [(0, .ref (b)), (1, .int (iI (0))), (2, .int (iI (0)))]) C 53 [1, 2, 0] dX16_isWell_52 (by decide) rfl rfl ?_
    refine z_as (lv' := [(0, .ref (b)), (1, .int (iI (bI ((false))))), (2, .int (iI (((0) : Int))))]) rfl rfl rfl ?_
    exact L53_2 _ (0) (false) (by omega) (by clear C hκ hκl hS hB hB1 hB2 hB3 hB4 hB5 hB6 hC hw hX hs hT h81 h82 f1a f1b f1c f1d L53_2; unfold xWl; simp only [allN]; first | (simp_all; done) | (simp_all <;> omega) | grind) (by intro h9; first | omega | exact absurd h9 (by decide)) (Nat.lt_succ_self _)
  · skip
    rw [xo_y n11]
    refine z_as (st' := [.ref (σ 20 (f))]) (lv' := [(0, .ref (b))]) rfl rfl rfl ?_
    refine z_ifnull C 7 dX16_isWell_4 rfl ?_
    refine z_aload_n C 8 0 dX16_isWell_7 rfl rfl ?_
    refine z_getf C hκ (v := va_rf (xo σ 20 (f))) 11 2 zk_X16 hb (by decide) q878 (Or.inl rfl) rfl dX16_isWell_8 rfl ?_
    have y12 : 0 ≤ f := (by omega)
    rw [xo_y y12]
    refine z_as (st' := [.ref (σ 20 (f))]) (lv' := [(0, .ref (b))]) rfl rfl rfl ?_
    obtain ⟨f13a, f13b, f13c, f13d⟩ := hS.M (show 0 ≤ f by omega) (by omega)
    refine z_getf C hκ (v := .int (iI (bI (mb w 16 (f))))) 14 4 zk_X9 (hX.mem (by omega) (by omega)) (by decide) q665 (Or.inl rfl) rfl dX16_isWell_11 rfl ?_
    refine z_ifB_ne C 49 17 dX16_isWell_14 (by decide) rfl (fun c14 => ?_) (fun c14 => ?_)
    · skip
      have c14b : (w 16 (f) = 1) := of_decide_eq_true c14
      refine z_iconst C 50 dX16_isWell_49 rfl ?_
      refine z_istore_n (lv' := [(0, .ref (b)), (1, .int (iI (0)))]) C 51 [1, 0] dX16_isWell_50 (by decide) rfl rfl ?_
      refine z_iconst C 52 dX16_isWell_51 rfl ?_
      refine z_istore_n (lv' := [(0, .ref (b)), (1, .int (iI (0))), (2, .int (iI (0)))]) C 53 [1, 2, 0] dX16_isWell_52 (by decide) rfl rfl ?_
      refine z_as (lv' := [(0, .ref (b)), (1, .int (iI (bI ((false))))), (2, .int (iI (((0) : Int))))]) rfl rfl rfl ?_
      exact L53_2 _ (0) (false) (by omega) (by clear C hκ hκl hS hB hB1 hB2 hB3 hB4 hB5 hB6 hC hw hX hs hT h81 h82 f1a f1b f1c f1d L53_2 f13a f13b f13c f13d; unfold xWl; simp only [allN]; first | (simp_all; done) | (simp_all <;> omega) | grind) (by intro h9; first | omega | exact absurd h9 (by decide)) (Nat.lt_succ_self _)
    · skip
      have c14b : ¬ (w 16 (f) = 1) := of_decide_eq_false c14
      refine z_aload_n C 18 0 dX16_isWell_17 rfl rfl ?_
      refine z_getf C hκ (v := va_rf (xo σ 20 (f))) 21 2 zk_X16 hb (by decide) q878 (Or.inl rfl) rfl dX16_isWell_18 rfl ?_
      have y15 : 0 ≤ f := (by omega)
      rw [xo_y y15]
      refine z_as (st' := [.ref (σ 20 (f))]) (lv' := [(0, .ref (b))]) rfl rfl rfl ?_
      refine z_getf C hκ (v := .int (iI (w 18 (f)))) 24 7 zk_X9 (hX.mem (by omega) (by omega)) (by decide) q677 (Or.inl rfl) rfl dX16_isWell_21 rfl ?_
      refine z_aload_n C 25 0 dX16_isWell_24 rfl rfl ?_
      refine z_getf C hκ (v := .ref (σ 20 (m))) 28 0 zk_X16 hb (by decide) q775 (Or.inr q776) rfl dX16_isWell_25 rfl ?_
      refine z_getf C hκ (v := .int (iI (w 18 (m)))) 31 7 zk_X9 (hX.mem (by omega) (by omega)) (by decide) q677 (Or.inl rfl) rfl dX16_isWell_28 rfl ?_
      refine z_icmp_gt C 49 34 dX16_isWell_31 (by decide) (hw.r _ _ rfl) (hw.r _ _ rfl) rfl (fun c16 => ?_) (fun c16 => ?_)
      · skip
        refine z_iconst C 50 dX16_isWell_49 rfl ?_
        refine z_istore_n (lv' := [(0, .ref (b)), (1, .int (iI (0)))]) C 51 [1, 0] dX16_isWell_50 (by decide) rfl rfl ?_
        refine z_iconst C 52 dX16_isWell_51 rfl ?_
        refine z_istore_n (lv' := [(0, .ref (b)), (1, .int (iI (0))), (2, .int (iI (0)))]) C 53 [1, 2, 0] dX16_isWell_52 (by decide) rfl rfl ?_
        refine z_as (lv' := [(0, .ref (b)), (1, .int (iI (bI ((false))))), (2, .int (iI (((0) : Int))))]) rfl rfl rfl ?_
        exact L53_2 _ (0) (false) (by omega) (by clear C hκ hκl hS hB hB1 hB2 hB3 hB4 hB5 hB6 hC hw hX hs hT h81 h82 f1a f1b f1c f1d L53_2 f13a f13b f13c f13d; unfold xWl; simp only [allN]; first | (simp_all; done) | (simp_all <;> omega) | grind) (by intro h9; first | omega | exact absurd h9 (by decide)) (Nat.lt_succ_self _)
      · skip
        refine z_aload_n C 35 0 dX16_isWell_34 rfl rfl ?_
        refine z_aload_n C 36 0 dX16_isWell_35 rfl rfl ?_
        refine z_getf C hκ (v := va_rf (xo σ 20 (f))) 39 2 zk_X16 hb (by decide) q878 (Or.inl rfl) rfl dX16_isWell_36 rfl ?_
        have y17 : 0 ≤ f := (by omega)
        rw [xo_y y17]
        refine z_as (st' := [.ref (σ 20 (f)), .ref (b)]) (lv' := [(0, .ref (b))]) rfl rfl rfl ?_
        refine z_callU (owner := RX10) (As := [.ref (σ 20 (f))]) (rest := []) C hκ hκl 42 (k10_isNear_16 hX hs hw hT (b) (m) (f) (f) hb ⟨by omega, by omega⟩ ⟨by omega, by omega⟩ ⟨by omega, by omega⟩) dX16_isWell_39 q1061 q1062 q1065 q1066 q104 q1067 rfl ⟨by decide, by decide, rfl⟩ (Nat.le_of_ble_eq_true rfl) (Nat.le_of_ble_eq_true rfl) (Nat.le_of_ble_eq_true rfl) (Nat.le_of_ble_eq_true rfl) (zrec_P hb) rfl rfl (Nat.le_of_ble_eq_true rfl) rfl (fun v9 Q9 h9 => ?_)
        obtain ⟨rfl, rfl⟩ := h9
        refine z_as (st' := [.int (iI (bI (reB w (m) (f))))]) rfl rfl rfl ?_
        refine z_ifB_eq C 49 45 dX16_isWell_42 (by decide) rfl (fun c18 => ?_) (fun c18 => ?_)
        · skip
          refine z_iconst C 50 dX16_isWell_49 rfl ?_
          refine z_istore_n (lv' := [(0, .ref (b)), (1, .int (iI (0)))]) C 51 [1, 0] dX16_isWell_50 (by decide) rfl rfl ?_
          refine z_iconst C 52 dX16_isWell_51 rfl ?_
          refine z_istore_n (lv' := [(0, .ref (b)), (1, .int (iI (0))), (2, .int (iI (0)))]) C 53 [1, 2, 0] dX16_isWell_52 (by decide) rfl rfl ?_
          refine z_as (lv' := [(0, .ref (b)), (1, .int (iI (bI ((false))))), (2, .int (iI (((0) : Int))))]) rfl rfl rfl ?_
          exact L53_2 _ (0) (false) (by omega) (by clear C hκ hκl hS hB hB1 hB2 hB3 hB4 hB5 hB6 hC hw hX hs hT h81 h82 f1a f1b f1c f1d L53_2 f13a f13b f13c f13d; unfold xWl; simp only [allN]; first | (simp_all; done) | (simp_all <;> omega) | grind) (by intro h9; first | omega | exact absurd h9 (by decide)) (Nat.lt_succ_self _)
        · skip
          refine z_iconst C 46 dX16_isWell_45 rfl ?_
          refine z_goto C 50 dX16_isWell_46 (by decide) ?_
          refine z_istore_n (lv' := [(0, .ref (b)), (1, .int (iI (1)))]) C 51 [1, 0] dX16_isWell_50 (by decide) rfl rfl ?_
          refine z_iconst C 52 dX16_isWell_51 rfl ?_
          refine z_istore_n (lv' := [(0, .ref (b)), (1, .int (iI (1))), (2, .int (iI (0)))]) C 53 [1, 2, 0] dX16_isWell_52 (by decide) rfl rfl ?_
          refine z_as (lv' := [(0, .ref (b)), (1, .int (iI (bI ((true))))), (2, .int (iI (((0) : Int))))]) rfl rfl rfl ?_
          exact L53_2 _ (0) (true) (by omega) (by clear C hκ hκl hS hB hB1 hB2 hB3 hB4 hB5 hB6 hC hw hX hs hT h81 h82 f1a f1b f1c f1d L53_2 f13a f13b f13c f13d; unfold xWl; simp only [allN]; first | (simp_all; done) | (simp_all <;> omega) | grind) (by intro h9; first | omega | exact absurd h9 (by decide)) (Nat.lt_succ_self _)
set_option maxRecDepth 100000 in
theorem k17_isNumber_17 {l : Launch} {θ : zTh} {σ : xA} {w : mW} {M N : zMap} (hX : xM θ σ w (xL w) M) (hs : xS w) (hw : mWF w) (hT : zTb θ) (b : Nat) (m : Int) (x : Int) (y : Int) (z : Int)  (hb : M b = some (.inr (17, [.ref (σ 20 (m)), .ref (σ 0 (0)), .int (iI (x)), .ref (σ 0 (0)), .int (iI (y)), .ref (σ 0 (0))]))) (hm : 0 ≤ m ∧ m < w 11 0) (r_x : inR x) (r_y : inR y) (hz : -1 ≤ z ∧ z < w 0 0) : ZM θ l yX17_isNumber cX17_isNumber 2 (some .boolean) ⟨1, 0, 0, 20⟩ [.ref (b), va_rf (xo σ 10 (z))] (zP θ M N) (zFn (some (.int (iI (bI (decide (1 ≤ z ∧ z ≤ 7)))))) (zP θ M N)) := by
  refine z_start (own := RX17) (nm := "isNumber") pnX17 rfl rfl (by cases (xo σ 10 (z)) <;> exact Nat.le_of_ble_eq_true rfl) ?_
  intro κ hκ hκl C
  refine z_as (lv' := [(0, .ref (b)), (1, va_rf (xo σ 10 (z)))]) rfl (by cases (xo σ 10 (z)) <;> rfl) rfl ?_
  change Z κ (zP θ M N) 0 0 0 [(0, .ref (b)), (1, va_rf (xo σ 10 (z)))] []
  have hS := hs.S
  have hB := hS.B
  obtain ⟨hB1, hB2, hB3, hB4, hB5, hB6⟩ := hS.B
  have hC := hS.C
  obtain ⟨h81, h82⟩ := hs.r8
  refine z_aload_nq C 1 1 dX17_isNumber_0 rfl rfl ?_
  rcases Int.lt_or_le (z) 0 with n1 | n1
  · skip
    rw [xo_n n1]
    refine z_as (st' := [.null]) (lv' := [(0, .ref (b)), (1, .null)]) rfl rfl rfl ?_
    refine z_ifnullN C 22 dX17_isNumber_1 (by decide) ?_
    refine z_iconst C 23 dX17_isNumber_22 rfl ?_
    refine z_as (st' := [.int (iI (bI (false)))]) rfl rfl rfl ?_
    exact z_iret C dX17_isNumber_23 (bI_nar _) (Nat.le_of_ble_eq_true rfl) (Nat.le_of_ble_eq_true rfl) ⟨congrArg (fun b => some (Value.int (iI (bI b)))) (by clear C hκ hκl hS hB hB1 hB2 hB3 hB4 hB5 hB6 hC hw hX hs hT h81 h82; rw [eq_comm]; simp_all [rfB] <;> omega), rfl⟩
  · skip
    rw [xo_y n1]
    refine z_as (st' := [.ref (σ 10 (z))]) (lv' := [(0, .ref (b)), (1, .ref (σ 10 (z)))]) rfl rfl rfl ?_
    refine z_ifnull C 4 dX17_isNumber_1 rfl ?_
    refine z_aload_n C 5 1 dX17_isNumber_4 rfl rfl ?_
    obtain ⟨f2a, f2b, f2c, f2d, f2e, f2f, f2g, f2h⟩ := hS.T (show 0 ≤ z by omega) (by omega)
    obtain ⟨f2i, f2j, f2k, f2l⟩ := hs.ty (show 0 ≤ z by omega) (by omega)
    refine xv_isReference (rest := []) C hκ hκl hX hs hw hT (z)   ⟨(by omega), (by omega)⟩  8 dX17_isNumber_5 q1056 (Nat.le_of_ble_eq_true rfl) (Nat.le_of_ble_eq_true rfl) (Nat.le_of_ble_eq_true rfl) (Nat.le_of_ble_eq_true rfl) (Nat.le_of_ble_eq_true rfl) rfl ?_
    refine z_as (st' := [.int (iI (bI (rfB w (z))))]) rfl rfl rfl ?_
    refine z_ifB_ne C 22 11 dX17_isNumber_8 (by decide) rfl (fun c3 => ?_) (fun c3 => ?_)
    · skip
      have c3b : (8 ≤ (z) ∧ (z) < w 0 0) := of_decide_eq_true c3
      refine z_iconst C 23 dX17_isNumber_22 rfl ?_
      refine z_as (st' := [.int (iI (bI (false)))]) rfl rfl rfl ?_
      exact z_iret C dX17_isNumber_23 (bI_nar _) (Nat.le_of_ble_eq_true rfl) (Nat.le_of_ble_eq_true rfl) ⟨congrArg (fun b => some (Value.int (iI (bI b)))) (by clear C hκ hκl hS hB hB1 hB2 hB3 hB4 hB5 hB6 hC hw hX hs hT h81 h82 f2a f2b f2c f2d f2e f2f f2g f2h f2i f2j f2k f2l; rw [eq_comm]; simp_all [rfB] <;> omega), rfl⟩
    · skip
      have c3b : ¬ (8 ≤ (z) ∧ (z) < w 0 0) := of_decide_eq_false c3
      refine z_aload_n C 12 1 dX17_isNumber_11 rfl rfl ?_
      refine xv_number (rest := []) C hκ hκl hX hs hw hT (z)   ⟨(by omega), (by omega)⟩  15 dX17_isNumber_12 q1057 (Nat.le_of_ble_eq_true rfl) (Nat.le_of_ble_eq_true rfl) (Nat.le_of_ble_eq_true rfl) (Nat.le_of_ble_eq_true rfl) (Nat.le_of_ble_eq_true rfl) rfl ?_
      refine z_as (st' := [.int (iI ((z)))]) rfl rfl rfl ?_
      refine z_if_le C 22 18 dX17_isNumber_15 (by decide) ⟨by omega, by omega⟩ rfl (fun c4 => ?_) (fun c4 => ?_)
      · skip
        refine z_iconst C 23 dX17_isNumber_22 rfl ?_
        refine z_as (st' := [.int (iI (bI (false)))]) rfl rfl rfl ?_
        exact z_iret C dX17_isNumber_23 (bI_nar _) (Nat.le_of_ble_eq_true rfl) (Nat.le_of_ble_eq_true rfl) ⟨congrArg (fun b => some (Value.int (iI (bI b)))) (by clear C hκ hκl hS hB hB1 hB2 hB3 hB4 hB5 hB6 hC hw hX hs hT h81 h82 f2a f2b f2c f2d f2e f2f f2g f2h f2i f2j f2k f2l; rw [eq_comm]; simp_all [rfB] <;> omega), rfl⟩
      · skip
        refine z_iconst C 19 dX17_isNumber_18 rfl ?_
        refine z_goto C 23 dX17_isNumber_19 (by decide) ?_
        refine z_as (st' := [.int (iI (bI (true)))]) rfl rfl rfl ?_
        exact z_iret C dX17_isNumber_23 (bI_nar _) (Nat.le_of_ble_eq_true rfl) (Nat.le_of_ble_eq_true rfl) ⟨congrArg (fun b => some (Value.int (iI (bI b)))) (by clear C hκ hκl hS hB hB1 hB2 hB3 hB4 hB5 hB6 hC hw hX hs hT h81 h82 f2a f2b f2c f2d f2e f2f f2g f2h f2i f2j f2k f2l; rw [eq_comm]; simp_all [rfB] <;> omega), rfl⟩
set_option maxRecDepth 100000 in
theorem k17_isWell_17 {l : Launch} {θ : zTh} {σ : xA} {w : mW} {M N : zMap} (hX : xM θ σ w (xL w) M) (hs : xS w) (hw : mWF w) (hT : zTb θ) (b : Nat) (m : Int) (x : Int) (y : Int)  (hb : M b = some (.inr (17, [.ref (σ 20 (m)), .ref (σ 0 (0)), .int (iI (x)), .ref (σ 0 (0)), .int (iI (y)), .ref (σ 0 (0))]))) (hm : 0 ≤ m ∧ m < w 11 0) (r_x : inR x) (r_y : inR y) : ZM θ l yX17_isWell cX17_isWell 1 (some .boolean) ⟨2, 0, 0, 46⟩ [.ref (b)] (zP θ M N) (zFn (some (.int (iI (bI (xWe w m 17 x y 0))))) (zP θ M N)) := by
  refine z_start (own := RX17) (nm := "isWell") pnX17 rfl rfl (Nat.le_of_ble_eq_true rfl) ?_
  intro κ hκ hκl C
  change Z κ (zP θ M N) 0 0 0 [(0, .ref (b))] []
  have hS := hs.S
  have hB := hS.B
  obtain ⟨hB1, hB2, hB3, hB4, hB5, hB6⟩ := hS.B
  have hC := hS.C
  obtain ⟨h81, h82⟩ := hs.r8
  obtain ⟨f1a, f1b, f1c, f1d⟩ := hS.M (show 0 ≤ m by omega) (by omega)
  have hp2 := xpI_r hS (i := x) hm.1 hm.2
  have hp3 := xpI_r hS (i := y) hm.1 hm.2
  have hxi := inB_x (w := w) m x
  have hyi := inB_x (w := w) m y
  refine z_aload_n C 1 0 dX17_isWell_0 rfl rfl ?_
  refine z_aload_n C 2 0 dX17_isWell_1 rfl rfl ?_
  refine z_aload_n C 3 0 dX17_isWell_2 rfl rfl ?_
  refine z_getf C hκ (v := .int (iI (x))) 6 2 zk_X17 hb (by decide) q811 (Or.inr q812) rfl dX17_isWell_3 rfl ?_
  refine z_callU (owner := RX10) (As := [.int (iI (x))]) (rest := [.ref (b)]) C hκ hκl 9 (k10_param_17 hX hs hw hT (b) (m) (x) (y) (x) r_x hb ⟨by omega, by omega⟩ r_x r_y) dX17_isWell_6 q1045 q1046 q1048 q1049 q104 q1050 rfl ⟨by decide, by decide, rfl⟩ (Nat.le_of_ble_eq_true rfl) (Nat.le_of_ble_eq_true rfl) (Nat.le_of_ble_eq_true rfl) (Nat.le_of_ble_eq_true rfl) (zrec_P hb) rfl rfl (Nat.le_of_ble_eq_true rfl) rfl (fun v9 Q9 h9 => ?_)
  obtain ⟨rfl, rfl⟩ := h9
  refine z_as (st' := [va_rf (xo σ 10 (xpI w (m) (x))), .ref (b)]) rfl rfl rfl ?_
  refine z_callV (As := [va_rf (xo σ 10 (xpI w (m) (x)))]) (rest := []) C hκ hκl 12 (k17_isNumber_17 hX hs hw hT (b) (m) (x) (y) (xpI w (m) (x)) hb hm r_x r_y ⟨by omega, by omega⟩) dX17_isWell_9 q1052 q1054 qs9 q111 q1055 znX17_isNumber (Nat.le_of_ble_eq_true rfl) (Nat.le_of_ble_eq_true rfl) (Nat.le_of_ble_eq_true rfl) (Nat.le_of_ble_eq_true rfl) (zrec_P hb) rfl rfl (Nat.le_of_ble_eq_true rfl) rfl (fun v9 Q9 h9 => ?_)
  obtain ⟨rfl, rfl⟩ := h9
  refine z_as (st' := [.int (iI (bI (decide (1 ≤ (xpI w (m) (x)) ∧ (xpI w (m) (x)) ≤ 7))))]) rfl rfl rfl ?_
  refine z_ifB_eq C 34 15 dX17_isWell_12 (by decide) rfl (fun c4 => ?_) (fun c4 => ?_)
  · skip
    have c4b : ¬ ((1 ≤ (xpI w (m) (x)) ∧ (xpI w (m) (x)) ≤ 7)) := of_decide_eq_false c4
    refine z_iconst C 35 dX17_isWell_34 rfl ?_
    refine z_as (st' := [.int (iI (bI (false)))]) rfl rfl rfl ?_
    exact z_iret C dX17_isWell_35 (bI_nar _) (Nat.le_of_ble_eq_true rfl) (Nat.le_of_ble_eq_true rfl) ⟨congrArg (fun b => some (Value.int (iI (bI b)))) (by clear C hκ hκl hS hB hB1 hB2 hB3 hB4 hB5 hB6 hC hw hX hs hT h81 h82 f1a f1b f1c f1d; show _ = xWe w m 17 x y 0; unfold xWe; simp only [Nat.reduceEqDiff, if_true, if_false, reduceIte]; all_goals first | rfl | (simp_all; done) | (simp_all <;> omega) | grind), rfl⟩
  · skip
    have c4b : ((1 ≤ (xpI w (m) (x)) ∧ (xpI w (m) (x)) ≤ 7)) := of_decide_eq_true c4
    refine z_aload_n C 16 0 dX17_isWell_15 rfl rfl ?_
    refine z_aload_n C 17 0 dX17_isWell_16 rfl rfl ?_
    refine z_aload_n C 18 0 dX17_isWell_17 rfl rfl ?_
    refine z_getf C hκ (v := .int (iI (y))) 21 4 zk_X17 hb (by decide) q895 (Or.inl rfl) rfl dX17_isWell_18 rfl ?_
    refine z_callU (owner := RX10) (As := [.int (iI (y))]) (rest := [.ref (b)]) C hκ hκl 24 (k10_param_17 hX hs hw hT (b) (m) (x) (y) (y) r_y hb ⟨by omega, by omega⟩ r_x r_y) dX17_isWell_21 q1045 q1046 q1048 q1049 q104 q1050 rfl ⟨by decide, by decide, rfl⟩ (Nat.le_of_ble_eq_true rfl) (Nat.le_of_ble_eq_true rfl) (Nat.le_of_ble_eq_true rfl) (Nat.le_of_ble_eq_true rfl) (zrec_P hb) rfl rfl (Nat.le_of_ble_eq_true rfl) rfl (fun v9 Q9 h9 => ?_)
    obtain ⟨rfl, rfl⟩ := h9
    refine z_as (st' := [va_rf (xo σ 10 (xpI w (m) (y))), .ref (b)]) rfl rfl rfl ?_
    refine z_callV (As := [va_rf (xo σ 10 (xpI w (m) (y)))]) (rest := []) C hκ hκl 27 (k17_isNumber_17 hX hs hw hT (b) (m) (x) (y) (xpI w (m) (y)) hb hm r_x r_y ⟨by omega, by omega⟩) dX17_isWell_24 q1052 q1054 qs9 q111 q1055 znX17_isNumber (Nat.le_of_ble_eq_true rfl) (Nat.le_of_ble_eq_true rfl) (Nat.le_of_ble_eq_true rfl) (Nat.le_of_ble_eq_true rfl) (zrec_P hb) rfl rfl (Nat.le_of_ble_eq_true rfl) rfl (fun v9 Q9 h9 => ?_)
    obtain ⟨rfl, rfl⟩ := h9
    refine z_as (st' := [.int (iI (bI (decide (1 ≤ (xpI w (m) (y)) ∧ (xpI w (m) (y)) ≤ 7))))]) rfl rfl rfl ?_
    refine z_ifB_eq C 34 30 dX17_isWell_27 (by decide) rfl (fun c5 => ?_) (fun c5 => ?_)
    · skip
      have c5b : ¬ ((1 ≤ (xpI w (m) (y)) ∧ (xpI w (m) (y)) ≤ 7)) := of_decide_eq_false c5
      refine z_iconst C 35 dX17_isWell_34 rfl ?_
      refine z_as (st' := [.int (iI (bI (false)))]) rfl rfl rfl ?_
      exact z_iret C dX17_isWell_35 (bI_nar _) (Nat.le_of_ble_eq_true rfl) (Nat.le_of_ble_eq_true rfl) ⟨congrArg (fun b => some (Value.int (iI (bI b)))) (by clear C hκ hκl hS hB hB1 hB2 hB3 hB4 hB5 hB6 hC hw hX hs hT h81 h82 f1a f1b f1c f1d; show _ = xWe w m 17 x y 0; unfold xWe; simp only [Nat.reduceEqDiff, if_true, if_false, reduceIte]; all_goals first | rfl | (simp_all; done) | (simp_all <;> omega) | grind), rfl⟩
    · skip
      have c5b : ((1 ≤ (xpI w (m) (y)) ∧ (xpI w (m) (y)) ≤ 7)) := of_decide_eq_true c5
      refine z_iconst C 31 dX17_isWell_30 rfl ?_
      refine z_goto C 35 dX17_isWell_31 (by decide) ?_
      refine z_as (st' := [.int (iI (bI (true)))]) rfl rfl rfl ?_
      exact z_iret C dX17_isWell_35 (bI_nar _) (Nat.le_of_ble_eq_true rfl) (Nat.le_of_ble_eq_true rfl) ⟨congrArg (fun b => some (Value.int (iI (bI b)))) (by clear C hκ hκl hS hB hB1 hB2 hB3 hB4 hB5 hB6 hC hw hX hs hT h81 h82 f1a f1b f1c f1d; show _ = xWe w m 17 x y 0; unfold xWe; simp only [Nat.reduceEqDiff, if_true, if_false, reduceIte]; all_goals first | rfl | (simp_all; done) | (simp_all <;> omega) | grind), rfl⟩
set_option maxRecDepth 100000 in
theorem k18_isWell_18 {l : Launch} {θ : zTh} {σ : xA} {w : mW} {M N : zMap} (hX : xM θ σ w (xL w) M) (hs : xS w) (hw : mWF w) (hT : zTb θ) (b : Nat) (m : Int) (f : Int)  (hb : M b = some (.inr (18, [.ref (σ 20 (m)), .ref (σ 0 (0)), va_rf (xo σ 20 (f)), .ref (σ 0 (0)), .ref (σ 0 (0))]))) (hm : 0 ≤ m ∧ m < w 11 0) (hf : -1 ≤ f ∧ f < w 11 0) : ZM θ l yX18_isWell cX18_isWell 1 (some .boolean) ⟨3, 0, 0, 60⟩ [.ref (b)] (zP θ M N) (zFn (some (.int (iI (bI (xWe w m 18 0 0 f))))) (zP θ M N)) := by
  refine z_start (own := RX18) (nm := "isWell") pnX18 rfl rfl (Nat.le_of_ble_eq_true rfl) ?_
  intro κ hκ hκl C
  change Z κ (zP θ M N) 0 0 0 [(0, .ref (b))] []
  have hS := hs.S
  have hB := hS.B
  obtain ⟨hB1, hB2, hB3, hB4, hB5, hB6⟩ := hS.B
  have hC := hS.C
  obtain ⟨h81, h82⟩ := hs.r8
  obtain ⟨f1a, f1b, f1c, f1d⟩ := hS.M (show 0 ≤ m by omega) (by omega)
  refine z_aload_n C 1 0 dX18_isWell_0 rfl rfl ?_
  refine z_getf C hκ (v := va_rf (xo σ 20 (f))) 4 2 zk_X18 hb (by decide) q879 (Or.inr q880) rfl dX18_isWell_1 rfl ?_
  rcases Int.lt_or_le (f) 0 with n2 | n2
  · skip
    rw [xo_n n2]
    refine z_as (st' := [.null]) (lv' := [(0, .ref (b))]) rfl rfl rfl ?_
    refine z_ifnullN C 44 dX18_isWell_4 (by decide) ?_
    refine z_iconst C 45 dX18_isWell_44 rfl ?_
    refine z_as (st' := [.int (iI (bI (false)))]) rfl rfl rfl ?_
    exact z_iret C dX18_isWell_45 (bI_nar _) (Nat.le_of_ble_eq_true rfl) (Nat.le_of_ble_eq_true rfl) ⟨congrArg (fun b => some (Value.int (iI (bI b)))) (by clear C hκ hκl hS hB hB1 hB2 hB3 hB4 hB5 hB6 hC hw hX hs hT h81 h82 f1a f1b f1c f1d; show _ = xWe w m 18 0 0 f; unfold xWe; simp only [Nat.reduceEqDiff, if_true, if_false, reduceIte]; all_goals first | rfl | (simp_all; done) | (simp_all <;> omega) | grind), rfl⟩
  · skip
    rw [xo_y n2]
    refine z_as (st' := [.ref (σ 20 (f))]) (lv' := [(0, .ref (b))]) rfl rfl rfl ?_
    refine z_ifnull C 7 dX18_isWell_4 rfl ?_
    refine z_aload_n C 8 0 dX18_isWell_7 rfl rfl ?_
    refine z_getf C hκ (v := .ref (σ 20 (m))) 11 0 zk_X18 hb (by decide) q773 (Or.inr q774) rfl dX18_isWell_8 rfl ?_
    refine z_iconst C 12 dX18_isWell_11 rfl ?_
    refine z_callV (As := [.int (iI (4))]) (rest := []) C hκ hκl 15 (k9_has hX hs hw hT (m) (4) ⟨by decide, by decide⟩ ⟨by omega, by omega⟩) dX18_isWell_12 q1031 q712 q713 q103 q714 znX9_has (Nat.le_of_ble_eq_true rfl) (Nat.le_of_ble_eq_true rfl) (Nat.le_of_ble_eq_true rfl) (Nat.le_of_ble_eq_true rfl) (zrec_P (hX.mem (by omega) (by omega))) rfl rfl (Nat.le_of_ble_eq_true rfl) rfl (fun v9 Q9 h9 => ?_)
    obtain ⟨rfl, rfl⟩ := h9
    refine z_as (st' := [.int (iI (bI (hasB w (m) (4))))]) rfl rfl rfl ?_
    refine z_ifB_ne C 44 18 dX18_isWell_15 (by decide) rfl (fun c3 => ?_) (fun c3 => ?_)
    · skip
      refine z_iconst C 45 dX18_isWell_44 rfl ?_
      refine z_as (st' := [.int (iI (bI (false)))]) rfl rfl rfl ?_
      exact z_iret C dX18_isWell_45 (bI_nar _) (Nat.le_of_ble_eq_true rfl) (Nat.le_of_ble_eq_true rfl) ⟨congrArg (fun b => some (Value.int (iI (bI b)))) (by clear C hκ hκl hS hB hB1 hB2 hB3 hB4 hB5 hB6 hC hw hX hs hT h81 h82 f1a f1b f1c f1d; show _ = xWe w m 18 0 0 f; unfold xWe; simp only [Nat.reduceEqDiff, if_true, if_false, reduceIte]; all_goals first | rfl | (simp_all; done) | (simp_all <;> omega) | grind), rfl⟩
    · skip
      refine z_aload_n C 19 0 dX18_isWell_18 rfl rfl ?_
      refine z_getf C hκ (v := va_rf (xo σ 20 (f))) 22 2 zk_X18 hb (by decide) q879 (Or.inr q880) rfl dX18_isWell_19 rfl ?_
      have y4 : 0 ≤ f := (by omega)
      rw [xo_y y4]
      refine z_as (st' := [.ref (σ 20 (f))]) (lv' := [(0, .ref (b))]) rfl rfl rfl ?_
      refine z_callV (As := []) (rest := []) C hκ hκl 25 (k9_isMet hX hs hw hT (f) ⟨by omega, by omega⟩) dX18_isWell_22 q1032 q1033 q1034 q103 q1035 znX9_isMet (Nat.le_of_ble_eq_true rfl) (Nat.le_of_ble_eq_true rfl) (Nat.le_of_ble_eq_true rfl) (Nat.le_of_ble_eq_true rfl) (zrec_P (hX.mem (by omega) (by omega))) rfl rfl (Nat.le_of_ble_eq_true rfl) rfl (fun v9 Q9 h9 => ?_)
      obtain ⟨rfl, rfl⟩ := h9
      refine z_as (st' := [.int (iI (bI (!hasB w (f) 4 && !prB w (f))))]) rfl rfl rfl ?_
      refine z_ifB_eq C 44 28 dX18_isWell_25 (by decide) rfl (fun c5 => ?_) (fun c5 => ?_)
      · skip
        refine z_iconst C 45 dX18_isWell_44 rfl ?_
        refine z_as (st' := [.int (iI (bI (false)))]) rfl rfl rfl ?_
        exact z_iret C dX18_isWell_45 (bI_nar _) (Nat.le_of_ble_eq_true rfl) (Nat.le_of_ble_eq_true rfl) ⟨congrArg (fun b => some (Value.int (iI (bI b)))) (by clear C hκ hκl hS hB hB1 hB2 hB3 hB4 hB5 hB6 hC hw hX hs hT h81 h82 f1a f1b f1c f1d; show _ = xWe w m 18 0 0 f; unfold xWe; simp only [Nat.reduceEqDiff, if_true, if_false, reduceIte]; all_goals first | rfl | (simp_all; done) | (simp_all <;> omega) | grind), rfl⟩
      · skip
        refine z_aload_n C 29 0 dX18_isWell_28 rfl rfl ?_
        refine z_getf C hκ (v := va_rf (xo σ 20 (f))) 32 2 zk_X18 hb (by decide) q879 (Or.inr q880) rfl dX18_isWell_29 rfl ?_
        refine z_bipush C 34 dX18_isWell_32 (by decide) rfl ?_
        have y6 : 0 ≤ f := (by omega)
        rw [xo_y y6]
        refine z_as (st' := [.int (iI (16)), .ref (σ 20 (f))]) (lv' := [(0, .ref (b))]) rfl rfl rfl ?_
        refine z_callV (As := [.int (iI (16))]) (rest := []) C hκ hκl 37 (k9_has hX hs hw hT (f) (16) ⟨by decide, by decide⟩ ⟨by omega, by omega⟩) dX18_isWell_34 q1031 q712 q713 q103 q714 znX9_has (Nat.le_of_ble_eq_true rfl) (Nat.le_of_ble_eq_true rfl) (Nat.le_of_ble_eq_true rfl) (Nat.le_of_ble_eq_true rfl) (zrec_P (hX.mem (by omega) (by omega))) rfl rfl (Nat.le_of_ble_eq_true rfl) rfl (fun v9 Q9 h9 => ?_)
        obtain ⟨rfl, rfl⟩ := h9
        refine z_as (st' := [.int (iI (bI (hasB w (f) (16))))]) rfl rfl rfl ?_
        refine z_ifB_ne C 44 40 dX18_isWell_37 (by decide) rfl (fun c7 => ?_) (fun c7 => ?_)
        · skip
          refine z_iconst C 45 dX18_isWell_44 rfl ?_
          refine z_as (st' := [.int (iI (bI (false)))]) rfl rfl rfl ?_
          exact z_iret C dX18_isWell_45 (bI_nar _) (Nat.le_of_ble_eq_true rfl) (Nat.le_of_ble_eq_true rfl) ⟨congrArg (fun b => some (Value.int (iI (bI b)))) (by clear C hκ hκl hS hB hB1 hB2 hB3 hB4 hB5 hB6 hC hw hX hs hT h81 h82 f1a f1b f1c f1d; show _ = xWe w m 18 0 0 f; unfold xWe; simp only [Nat.reduceEqDiff, if_true, if_false, reduceIte]; all_goals first | rfl | (simp_all; done) | (simp_all <;> omega) | grind), rfl⟩
        · skip
          refine z_iconst C 41 dX18_isWell_40 rfl ?_
          refine z_goto C 45 dX18_isWell_41 (by decide) ?_
          refine z_as (st' := [.int (iI (bI (true)))]) rfl rfl rfl ?_
          exact z_iret C dX18_isWell_45 (bI_nar _) (Nat.le_of_ble_eq_true rfl) (Nat.le_of_ble_eq_true rfl) ⟨congrArg (fun b => some (Value.int (iI (bI b)))) (by clear C hκ hκl hS hB hB1 hB2 hB3 hB4 hB5 hB6 hC hw hX hs hT h81 h82 f1a f1b f1c f1d; show _ = xWe w m 18 0 0 f; unfold xWe; simp only [Nat.reduceEqDiff, if_true, if_false, reduceIte]; all_goals first | rfl | (simp_all; done) | (simp_all <;> omega) | grind), rfl⟩
set_option maxRecDepth 100000 in
theorem k21_isWell_21 {l : Launch} {θ : zTh} {σ : xA} {w : mW} {M N : zMap} (hX : xM θ σ w (xL w) M) (hs : xS w) (hw : mWF w) (hT : zTb θ) (b : Nat) (m : Int) (x : Int) (y : Int)  (hb : M b = some (.inr (21, [.ref (σ 20 (m)), .ref (σ 0 (0)), .int (iI (x)), .ref (σ 0 (0)), .int (iI (y)), .ref (σ 0 (0))]))) (hm : 0 ≤ m ∧ m < w 11 0) (r_x : inR x) (r_y : inR y) : ZM θ l yX21_isWell cX21_isWell 1 (some .boolean) ⟨247, 0, 0, 2530⟩ [.ref (b)] (zP θ M N) (zFn (some (.int (iI (bI (xWe w m 21 x y 0))))) (zP θ M N)) := by
  refine z_start (own := RX21) (nm := "isWell") pnX21 rfl rfl (Nat.le_of_ble_eq_true rfl) ?_
  intro κ hκ hκl C
  change Z κ (zP θ M N) 0 0 0 [(0, .ref (b))] []
  have hS := hs.S
  have hB := hS.B
  obtain ⟨hB1, hB2, hB3, hB4, hB5, hB6⟩ := hS.B
  have hC := hS.C
  obtain ⟨h81, h82⟩ := hs.r8
  obtain ⟨f1a, f1b, f1c, f1d⟩ := hS.M (show 0 ≤ m by omega) (by omega)
  have hp2 := xpI_r hS (i := x) hm.1 hm.2
  have hi3 := xpI_i (i := x) hS hm.1 hm.2
  have hp4 := xpI_r hS (i := y) hm.1 hm.2
  have hi5 := xpI_i (i := y) hS hm.1 hm.2
  refine z_aload_n C 1 0 dX21_isWell_0 rfl rfl ?_
  refine z_callSU (As := []) (rest := []) C hκ hκl 4 (k12_isWell_21 hX hs hw hT (b) (m) (x) (y) hb ⟨by omega, by omega⟩ r_x r_y) dX21_isWell_1 q1079 q2578 q1011 q1080 q106 q1081 ⟨by decide, rfl⟩ (Nat.le_of_ble_eq_true rfl) (Nat.le_of_ble_eq_true rfl) (Nat.le_of_ble_eq_true rfl) (Nat.le_of_ble_eq_true rfl) (zrec_P hb) rfl rfl (Nat.le_of_ble_eq_true rfl) rfl (fun v9 Q9 h9 => ?_)
  obtain ⟨rfl, rfl⟩ := h9
  refine z_as (st' := [.int (iI (bI (ipB w (m) (x))))]) rfl rfl rfl ?_
  refine z_ifB_eq C 59 7 dX21_isWell_4 (by decide) rfl (fun c6 => ?_) (fun c6 => ?_)
  · skip
    refine z_iconst C 60 dX21_isWell_59 rfl ?_
    refine z_as (st' := [.int (iI (bI (false)))]) rfl rfl rfl ?_
    exact z_iret C dX21_isWell_60 (bI_nar _) (Nat.le_of_ble_eq_true rfl) (Nat.le_of_ble_eq_true rfl) ⟨congrArg (fun b => some (Value.int (iI (bI b)))) (by clear C hκ hκl hS hB hB1 hB2 hB3 hB4 hB5 hB6 hC hw hX hs hT h81 h82 f1a f1b f1c f1d; show _ = xWe w m 21 x y 0; unfold xWe; simp only [Nat.reduceEqDiff, if_true, if_false, reduceIte]; all_goals first | rfl | (simp_all; done) | (simp_all <;> omega) | grind), rfl⟩
  · skip
    have hx9 : 0 ≤ xpI w m x := by simp_all
    refine z_aload_n C 8 0 dX21_isWell_7 rfl rfl ?_
    refine z_aload_n C 9 0 dX21_isWell_8 rfl rfl ?_
    refine z_getf C hκ (v := .int (iI (x))) 12 2 zk_X21 hb (by decide) q813 (Or.inr q814) rfl dX21_isWell_9 rfl ?_
    refine z_callU (owner := RX10) (As := [.int (iI (x))]) (rest := []) C hκ hκl 15 (k10_param_21 hX hs hw hT (b) (m) (x) (y) (x) r_x hb ⟨by omega, by omega⟩ r_x r_y) dX21_isWell_12 q1087 q1088 q1089 q1049 q104 q1050 rfl ⟨by decide, by decide, rfl⟩ (Nat.le_of_ble_eq_true rfl) (Nat.le_of_ble_eq_true rfl) (Nat.le_of_ble_eq_true rfl) (Nat.le_of_ble_eq_true rfl) (zrec_P hb) rfl rfl (Nat.le_of_ble_eq_true rfl) rfl (fun v9 Q9 h9 => ?_)
    obtain ⟨rfl, rfl⟩ := h9
    refine z_as (st' := [va_rf (xo σ 10 (xpI w (m) (x)))]) rfl rfl rfl ?_
    have y7 : 0 ≤ xpI w (m) (x) := (by omega)
    rw [xo_y y7]
    refine z_as (st' := [.ref (σ 10 (xpI w (m) (x)))]) (lv' := [(0, .ref (b))]) rfl rfl rfl ?_
    obtain ⟨f8a, f8b, f8c, f8d, f8e, f8f, f8g, f8h⟩ := hS.T (show 0 ≤ xpI w (m) (x) by omega) (by omega)
    obtain ⟨f8i, f8j, f8k, f8l⟩ := hs.ty (show 0 ≤ xpI w (m) (x) by omega) (by omega)
    refine xv_of (rest := []) C hκ hκl hX hs hw hT (xpI w (m) (x))   ⟨(by omega), (by omega)⟩  18 dX21_isWell_15 q1090 (Nat.le_of_ble_eq_true rfl) (Nat.le_of_ble_eq_true rfl) (Nat.le_of_ble_eq_true rfl) (Nat.le_of_ble_eq_true rfl) (Nat.le_of_ble_eq_true rfl) rfl ?_
    refine z_as (st' := [va_rf (xo σ 10 (w 4 (xpI w (m) (x))))]) rfl rfl rfl ?_
    rcases Int.lt_or_le (w 4 (xpI w (m) (x))) 0 with n9 | n9
    · skip
      rw [xo_n n9]
      refine z_as (st' := [.null]) (lv' := [(0, .ref (b))]) rfl rfl rfl ?_
      refine z_ifnullN C 59 dX21_isWell_18 (by decide) ?_
      refine z_iconst C 60 dX21_isWell_59 rfl ?_
      refine z_as (st' := [.int (iI (bI (false)))]) rfl rfl rfl ?_
      exact z_iret C dX21_isWell_60 (bI_nar _) (Nat.le_of_ble_eq_true rfl) (Nat.le_of_ble_eq_true rfl) ⟨congrArg (fun b => some (Value.int (iI (bI b)))) (by clear C hκ hκl hS hB hB1 hB2 hB3 hB4 hB5 hB6 hC hw hX hs hT h81 h82 f1a f1b f1c f1d f8a f8b f8c f8d f8e f8f f8g f8h f8i f8j f8k f8l; show _ = xWe w m 21 x y 0; unfold xWe; simp only [Nat.reduceEqDiff, if_true, if_false, reduceIte]; all_goals first | rfl | (simp_all; done) | (simp_all <;> omega) | grind), rfl⟩
    · skip
      rw [xo_y n9]
      refine z_as (st' := [.ref (σ 10 (w 4 (xpI w (m) (x))))]) (lv' := [(0, .ref (b))]) rfl rfl rfl ?_
      refine z_ifnull C 21 dX21_isWell_18 rfl ?_
      refine z_aload_n C 22 0 dX21_isWell_21 rfl rfl ?_
      refine z_aload_n C 23 0 dX21_isWell_22 rfl rfl ?_
      refine z_getf C hκ (v := .int (iI (y))) 26 4 zk_X21 hb (by decide) q1001 (Or.inl rfl) rfl dX21_isWell_23 rfl ?_
      refine z_callU (owner := RX10) (As := [.int (iI (y))]) (rest := []) C hκ hκl 29 (k10_param_21 hX hs hw hT (b) (m) (x) (y) (y) r_y hb ⟨by omega, by omega⟩ r_x r_y) dX21_isWell_26 q1087 q1088 q1089 q1049 q104 q1050 rfl ⟨by decide, by decide, rfl⟩ (Nat.le_of_ble_eq_true rfl) (Nat.le_of_ble_eq_true rfl) (Nat.le_of_ble_eq_true rfl) (Nat.le_of_ble_eq_true rfl) (zrec_P hb) rfl rfl (Nat.le_of_ble_eq_true rfl) rfl (fun v9 Q9 h9 => ?_)
      obtain ⟨rfl, rfl⟩ := h9
      refine z_as (st' := [va_rf (xo σ 10 (xpI w (m) (y)))]) rfl rfl rfl ?_
      rcases Int.lt_or_le (xpI w (m) (y)) 0 with n10 | n10
      · skip
        rw [xo_n n10]
        refine z_as (st' := [.null]) (lv' := [(0, .ref (b))]) rfl rfl rfl ?_
        refine z_ifnullN C 59 dX21_isWell_29 (by decide) ?_
        refine z_iconst C 60 dX21_isWell_59 rfl ?_
        refine z_as (st' := [.int (iI (bI (false)))]) rfl rfl rfl ?_
        exact z_iret C dX21_isWell_60 (bI_nar _) (Nat.le_of_ble_eq_true rfl) (Nat.le_of_ble_eq_true rfl) ⟨congrArg (fun b => some (Value.int (iI (bI b)))) (by clear C hκ hκl hS hB hB1 hB2 hB3 hB4 hB5 hB6 hC hw hX hs hT h81 h82 f1a f1b f1c f1d f8a f8b f8c f8d f8e f8f f8g f8h f8i f8j f8k f8l; show _ = xWe w m 21 x y 0; unfold xWe; simp only [Nat.reduceEqDiff, if_true, if_false, reduceIte]; all_goals first | rfl | (simp_all; done) | (simp_all <;> omega) | grind), rfl⟩
      · skip
        rw [xo_y n10]
        refine z_as (st' := [.ref (σ 10 (xpI w (m) (y)))]) (lv' := [(0, .ref (b))]) rfl rfl rfl ?_
        refine z_ifnull C 32 dX21_isWell_29 rfl ?_
        refine z_aload_n C 33 0 dX21_isWell_32 rfl rfl ?_
        refine z_aload_n C 34 0 dX21_isWell_33 rfl rfl ?_
        refine z_getf C hκ (v := .int (iI (y))) 37 4 zk_X21 hb (by decide) q1001 (Or.inl rfl) rfl dX21_isWell_34 rfl ?_
        refine z_callU (owner := RX10) (As := [.int (iI (y))]) (rest := []) C hκ hκl 40 (k10_param_21 hX hs hw hT (b) (m) (x) (y) (y) r_y hb ⟨by omega, by omega⟩ r_x r_y) dX21_isWell_37 q1087 q1088 q1089 q1049 q104 q1050 rfl ⟨by decide, by decide, rfl⟩ (Nat.le_of_ble_eq_true rfl) (Nat.le_of_ble_eq_true rfl) (Nat.le_of_ble_eq_true rfl) (Nat.le_of_ble_eq_true rfl) (zrec_P hb) rfl rfl (Nat.le_of_ble_eq_true rfl) rfl (fun v9 Q9 h9 => ?_)
        obtain ⟨rfl, rfl⟩ := h9
        refine z_as (st' := [va_rf (xo σ 10 (xpI w (m) (y)))]) rfl rfl rfl ?_
        refine z_aload_n C 41 0 dX21_isWell_40 rfl rfl ?_
        refine z_getf C hκ (v := .ref (σ 0 (0))) 44 5 zk_X21 hb (by decide) q1002 (Or.inl rfl) rfl dX21_isWell_41 rfl ?_
        refine z_getfN C hκ hT (v := .ref (σ 1 (0))) 47 0 zk_X0 hX.o (by decide) q326 (Or.inl rfl) rfl dX21_isWell_44 rfl ?_
        refine z_iconst C 48 dX21_isWell_47 rfl ?_
        refine x_aT C hκ 49 hX hs (by decide) (by omega) dX21_isWell_48 rfl ?_
        obtain ⟨f11a, f11b, f11c, f11d, f11e, f11f, f11g, f11h⟩ := hS.T (show 0 ≤ 4 by decide) (by omega)
        obtain ⟨f11i, f11j, f11k, f11l⟩ := hs.ty (show 0 ≤ 4 by decide) (by omega)
        have y12 : 0 ≤ xpI w (m) (y) := (by omega)
        rw [xo_y y12]
        refine z_as (st' := [.ref (σ 10 (4)), .ref (σ 10 (xpI w (m) (y)))]) (lv' := [(0, .ref (b))]) rfl rfl rfl ?_
        obtain ⟨f13a, f13b, f13c, f13d, f13e, f13f, f13g, f13h⟩ := hS.T (show 0 ≤ xpI w (m) (y) by omega) (by omega)
        obtain ⟨f13i, f13j, f13k, f13l⟩ := hs.ty (show 0 ≤ xpI w (m) (y) by omega) (by omega)
        refine xv_is (rest := []) C hκ hκl hX hs hw hT (xpI w (m) (y)) (4) ⟨(by omega), (by omega)⟩ ⟨(by decide), (by omega)⟩ 52 dX21_isWell_49 q1091 (Nat.le_of_ble_eq_true rfl) (Nat.le_of_ble_eq_true rfl) (Nat.le_of_ble_eq_true rfl) (Nat.le_of_ble_eq_true rfl) (Nat.le_of_ble_eq_true rfl) rfl ?_
        refine z_as (st' := [.int (iI (bI (giB w (xpI w (m) (y)) (4))))]) rfl rfl rfl ?_
        refine z_ifB_eq C 59 55 dX21_isWell_52 (by decide) rfl (fun c14 => ?_) (fun c14 => ?_)
        · skip
          refine z_iconst C 60 dX21_isWell_59 rfl ?_
          refine z_as (st' := [.int (iI (bI (false)))]) rfl rfl rfl ?_
          exact z_iret C dX21_isWell_60 (bI_nar _) (Nat.le_of_ble_eq_true rfl) (Nat.le_of_ble_eq_true rfl) ⟨congrArg (fun b => some (Value.int (iI (bI b)))) (by clear C hκ hκl hS hB hB1 hB2 hB3 hB4 hB5 hB6 hC hw hX hs hT h81 h82 f1a f1b f1c f1d f8a f8b f8c f8d f8e f8f f8g f8h f8i f8j f8k f8l f11a f11b f11c f11d f11e f11f f11g f11h f11i f11j f11k f11l f13a f13b f13c f13d f13e f13f f13g f13h f13i f13j f13k f13l; show _ = xWe w m 21 x y 0; unfold xWe; simp only [Nat.reduceEqDiff, if_true, if_false, reduceIte]; all_goals first | rfl | (simp_all; done) | (simp_all <;> omega) | grind), rfl⟩
        · skip
          refine z_iconst C 56 dX21_isWell_55 rfl ?_
          refine z_goto C 60 dX21_isWell_56 (by decide) ?_
          refine z_as (st' := [.int (iI (bI (true)))]) rfl rfl rfl ?_
          exact z_iret C dX21_isWell_60 (bI_nar _) (Nat.le_of_ble_eq_true rfl) (Nat.le_of_ble_eq_true rfl) ⟨congrArg (fun b => some (Value.int (iI (bI b)))) (by clear C hκ hκl hS hB hB1 hB2 hB3 hB4 hB5 hB6 hC hw hX hs hT h81 h82 f1a f1b f1c f1d f8a f8b f8c f8d f8e f8f f8g f8h f8i f8j f8k f8l f11a f11b f11c f11d f11e f11f f11g f11h f11i f11j f11k f11l f13a f13b f13c f13d f13e f13f f13g f13h f13i f13j f13k f13l; show _ = xWe w m 21 x y 0; unfold xWe; simp only [Nat.reduceEqDiff, if_true, if_false, reduceIte]; all_goals first | rfl | (simp_all; done) | (simp_all <;> omega) | grind), rfl⟩
