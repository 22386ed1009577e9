theorem xWe_13 {f : Int} {b : Bool} (h : (decide (0 ≤ f) && b) = true) : 0 ≤ f := by simp at h; exact h.1
theorem xWe_16 {w : mW} {m f : Int} {b : Bool} (h : (xWl w m f && b) = true) : 0 ≤ f := by unfold xWl at h; simp at h; exact h.1.1
theorem xWe_18 {w : mW} {m f : Int} (h : xWe w m 18 0 0 f = true) : 0 ≤ f := by unfold xWe at h; simp at h; exact h.1
theorem xWe_17 {w : mW} {m x y : Int} (h : xWe w m 17 x y 0 = true) : (0 ≤ xpI w m x ∧ xpI w m x < 8) ∧ (0 ≤ xpI w m y ∧ xpI w m y < 8) := by
  unfold xWe at h
  rw [inB_x, inB_x] at h
  simp at h
  omega
theorem xWe_21 {w : mW} {m x y : Int} (hS : mS w) (hm : 0 ≤ m ∧ m < w 11 0) (h : xWe w m 21 x y 0 = true) : 0 ≤ xpI w m x := by
  unfold xWe at h
  rw [xpI_i hS hm.1 hm.2] at h
  simp at h
  exact h.1

set_option maxRecDepth 100000 in
theorem k10_isFit_11 {l : Launch} {θ : zTh} {σ : xA} {w : mW} {M N : zMap} (hX : xM θ σ w (xL w) M) (hs : xS w) (hw : mWF w) (hT : zTb θ) (b : Nat) (m : Int)  (hb : M b = some (.inr (11, [.ref (σ 20 (m)), .ref (σ 0 (0)), .ref (σ 0 (0))]))) (hm : 0 ≤ m ∧ m < w 11 0) (h17 : ∀ f : Int, 0 ≤ f → f < w 11 0 → w 16 f = 1 → 0 ≤ w 17 f) : ZM θ l yX10_isFit cX10_isFit 1 (some .boolean) ⟨1, 0, 0, 20⟩ [.ref (b)] (zP θ M N) (zFn (some (.int (iI (bI (xWe w m 11 0 0 0 && (decide ((-1) = -1) || decide (w 17 m = -1) || giB w ((-1)) (w 17 m))))))) (zP θ M N)) := by
  refine z_start (own := RX10) (nm := "isFit") pnX10 rfl rfl (Nat.le_of_ble_eq_true rfl) ?_
  intro κ hκ hκl C
  change Z κ (zP θ M N) 0 0 0 [(0, .ref (b))] []
  have hS := hs.S
  have hB := hS.B
  obtain ⟨hB1, hB2, hB3, hB4, hB5, hB6⟩ := hS.B
  have hC := hS.C
  obtain ⟨h81, h82⟩ := hs.r8
  obtain ⟨f1a, f1b, f1c, f1d⟩ := hS.M (show 0 ≤ m by omega) (by omega)
  have k17 : -1 ≤ w 17 m := by omega
  refine z_aload_n C 1 0 dX10_isFit_0 rfl rfl ?_
  refine z_callU (owner := RX10) (As := []) (rest := []) C hκ hκl 4 (k10_isWell_11 hX hs hw hT (b) (m) hb ⟨by omega, by omega⟩) dX10_isFit_1 q1025 q1027 q1093 q1026 q104 q1109 rfl ⟨by decide, by decide, rfl⟩ (Nat.le_of_ble_eq_true rfl) (Nat.le_of_ble_eq_true rfl) (Nat.le_of_ble_eq_true rfl) (Nat.le_of_ble_eq_true rfl) (zrec_P hb) rfl rfl (Nat.le_of_ble_eq_true rfl) rfl (fun v9 Q9 h9 => ?_)
  obtain ⟨rfl, rfl⟩ := h9
  refine z_as (st' := [.int (iI (bI (xWe w (m) 11 0 0 0)))]) rfl rfl rfl ?_
  refine z_ifB_eq C 45 7 dX10_isFit_4 (by decide) rfl (fun c2 => ?_) (fun c2 => ?_)
  · skip
    refine z_iconst C 46 dX10_isFit_45 rfl ?_
    refine z_as (st' := [.int (iI (bI (false)))]) rfl rfl rfl ?_
    exact z_iret C dX10_isFit_46 (bI_nar _) (Nat.le_of_ble_eq_true rfl) (Nat.le_of_ble_eq_true rfl) ⟨congrArg (fun b => some (Value.int (iI (bI b)))) (by clear C hκ hκl hS hB hB1 hB2 hB3 hB4 hB5 hB6 hC hw hX hs hT h81 h82 f1a f1b f1c f1d; clear h17 κ; first | (simp_all; done) | (simp_all <;> omega) | grind), rfl⟩
  · skip
    refine z_aload_n C 8 0 dX10_isFit_7 rfl rfl ?_
    refine z_getf C hκ (v := .ref (σ 20 (m))) 11 0 zk_X11 hb (by decide) q772 (Or.inl rfl) rfl dX10_isFit_8 rfl ?_
    refine z_getf C hκ (v := va_rf (xo σ 10 (w 17 (m)))) 14 5 zk_X9 (hX.mem (by omega) (by omega)) (by decide) q671 (Or.inl rfl) rfl dX10_isFit_11 rfl ?_
    rcases Int.lt_or_le (w 17 (m)) 0 with n3 | n3
    · skip
      rw [xo_n n3]
      refine z_as (st' := [.null]) (lv' := [(0, .ref (b))]) rfl rfl rfl ?_
      refine z_ifnullN C 41 dX10_isFit_14 (by decide) ?_
      refine z_iconst C 42 dX10_isFit_41 rfl ?_
      refine z_goto C 46 dX10_isFit_42 (by decide) ?_
      refine z_as (st' := [.int (iI (bI (true)))]) rfl rfl rfl ?_
      exact z_iret C dX10_isFit_46 (bI_nar _) (Nat.le_of_ble_eq_true rfl) (Nat.le_of_ble_eq_true rfl) ⟨congrArg (fun b => some (Value.int (iI (bI b)))) (by clear C hκ hκl hS hB hB1 hB2 hB3 hB4 hB5 hB6 hC hw hX hs hT h81 h82 f1a f1b f1c f1d; clear h17 κ; first | (simp_all; done) | (simp_all <;> omega) | grind), rfl⟩
    · skip
      rw [xo_y n3]
      refine z_as (st' := [.ref (σ 10 (w 17 (m)))]) (lv' := [(0, .ref (b))]) rfl rfl rfl ?_
      refine z_ifnull C 17 dX10_isFit_14 rfl ?_
      refine z_aload_n C 18 0 dX10_isFit_17 rfl rfl ?_
      refine z_callU (owner := RX10) (As := []) (rest := []) C hκ hκl 21 (k10_type_11 hX hs hw hT (b) (m) hb ⟨by omega, by omega⟩) dX10_isFit_18 q1110 q1112 q1131 q1111 q104 q1138 rfl ⟨by decide, by decide, rfl⟩ (Nat.le_of_ble_eq_true rfl) (Nat.le_of_ble_eq_true rfl) (Nat.le_of_ble_eq_true rfl) (Nat.le_of_ble_eq_true rfl) (zrec_P hb) rfl rfl (Nat.le_of_ble_eq_true rfl) rfl (fun v9 Q9 h9 => ?_)
      obtain ⟨rfl, rfl⟩ := h9
      refine z_as (st' := [va_rf (xo σ 10 (-1))]) rfl rfl rfl ?_
      have n4 : (-1 : Int) < 0 := by decide
      rw [xo_n n4]
      refine z_as (st' := [.null]) (lv' := [(0, .ref (b))]) rfl rfl rfl ?_
      refine z_ifnullN C 41 dX10_isFit_21 (by decide) ?_
      refine z_iconst C 42 dX10_isFit_41 rfl ?_
      refine z_goto C 46 dX10_isFit_42 (by decide) ?_
      refine z_as (st' := [.int (iI (bI (true)))]) rfl rfl rfl ?_
      exact z_iret C dX10_isFit_46 (bI_nar _) (Nat.le_of_ble_eq_true rfl) (Nat.le_of_ble_eq_true rfl) ⟨congrArg (fun b => some (Value.int (iI (bI b)))) (by clear C hκ hκl hS hB hB1 hB2 hB3 hB4 hB5 hB6 hC hw hX hs hT h81 h82 f1a f1b f1c f1d; clear h17 κ; first | (simp_all; done) | (simp_all <;> omega) | grind), rfl⟩
set_option maxRecDepth 100000 in
theorem k10_isFit_12 {l : Launch} {θ : zTh} {σ : xA} {w : mW} {M N : zMap} (hX : xM θ σ w (xL w) M) (hs : xS w) (hw : mWF w) (hT : zTb θ) (b : Nat) (m : Int) (x : Int)  (hb : M b = some (.inr (12, [.ref (σ 20 (m)), .ref (σ 0 (0)), .int (iI (x)), .ref (σ 0 (0))]))) (hm : 0 ≤ m ∧ m < w 11 0) (r_x : inR x) (h17 : ∀ f : Int, 0 ≤ f → f < w 11 0 → w 16 f = 1 → 0 ≤ w 17 f) : ZM θ l yX10_isFit cX10_isFit 1 (some .boolean) ⟨247, 0, 0, 2530⟩ [.ref (b)] (zP θ M N) (zFn (some (.int (iI (bI (ipB w m x && (decide (xpI w m x = -1) || decide (w 17 m = -1) || giB w (xpI w m x) (w 17 m))))))) (zP θ M N)) := by
  refine z_start (own := RX10) (nm := "isFit") pnX10 rfl rfl (Nat.le_of_ble_eq_true rfl) ?_
  intro κ hκ hκl C
  change Z κ (zP θ M N) 0 0 0 [(0, .ref (b))] []
  have hS := hs.S
  have hB := hS.B
  obtain ⟨hB1, hB2, hB3, hB4, hB5, hB6⟩ := hS.B
  have hC := hS.C
  obtain ⟨h81, h82⟩ := hs.r8
  obtain ⟨f1a, f1b, f1c, f1d⟩ := hS.M (show 0 ≤ m by omega) (by omega)
  have k17 : -1 ≤ w 17 m := by omega
  have hp2 := xpI_r hS (i := x) hm.1 hm.2
  refine z_aload_n C 1 0 dX10_isFit_0 rfl rfl ?_
  refine z_callO (owner := RX10) (As := []) (rest := []) C hκ hκl 4 (k12_isWell_12 hX hs hw hT (b) (m) (x) hb ⟨by omega, by omega⟩ r_x) dX10_isFit_1 q1025 q1027 q1026 q1109 q1092 q1080 q106 q1081 ⟨by decide, by decide, rfl⟩ (Nat.le_of_ble_eq_true rfl) (Nat.le_of_ble_eq_true rfl) (Nat.le_of_ble_eq_true rfl) (Nat.le_of_ble_eq_true rfl) (zrec_P hb) rfl rfl (Nat.le_of_ble_eq_true rfl) rfl (fun v9 Q9 h9 => ?_)
  obtain ⟨rfl, rfl⟩ := h9
  refine z_as (st' := [.int (iI (bI (ipB w (m) (x))))]) rfl rfl rfl ?_
  refine z_ifB_eq C 45 7 dX10_isFit_4 (by decide) rfl (fun c3 => ?_) (fun c3 => ?_)
  · skip
    refine z_iconst C 46 dX10_isFit_45 rfl ?_
    refine z_as (st' := [.int (iI (bI (false)))]) rfl rfl rfl ?_
    exact z_iret C dX10_isFit_46 (bI_nar _) (Nat.le_of_ble_eq_true rfl) (Nat.le_of_ble_eq_true rfl) ⟨congrArg (fun b => some (Value.int (iI (bI b)))) (by clear C hκ hκl hS hB hB1 hB2 hB3 hB4 hB5 hB6 hC hw hX hs hT h81 h82 f1a f1b f1c f1d; clear h17 κ; first | (simp_all; done) | (simp_all <;> omega) | grind), rfl⟩
  · skip
    refine z_aload_n C 8 0 dX10_isFit_7 rfl rfl ?_
    refine z_getf C hκ (v := .ref (σ 20 (m))) 11 0 zk_X12 hb (by decide) q772 (Or.inl rfl) rfl dX10_isFit_8 rfl ?_
    refine z_getf C hκ (v := va_rf (xo σ 10 (w 17 (m)))) 14 5 zk_X9 (hX.mem (by omega) (by omega)) (by decide) q671 (Or.inl rfl) rfl dX10_isFit_11 rfl ?_
    rcases Int.lt_or_le (w 17 (m)) 0 with n4 | n4
    · skip
      rw [xo_n n4]
      refine z_as (st' := [.null]) (lv' := [(0, .ref (b))]) rfl rfl rfl ?_
      refine z_ifnullN C 41 dX10_isFit_14 (by decide) ?_
      refine z_iconst C 42 dX10_isFit_41 rfl ?_
      refine z_goto C 46 dX10_isFit_42 (by decide) ?_
      refine z_as (st' := [.int (iI (bI (true)))]) rfl rfl rfl ?_
      exact z_iret C dX10_isFit_46 (bI_nar _) (Nat.le_of_ble_eq_true rfl) (Nat.le_of_ble_eq_true rfl) ⟨congrArg (fun b => some (Value.int (iI (bI b)))) (by clear C hκ hκl hS hB hB1 hB2 hB3 hB4 hB5 hB6 hC hw hX hs hT h81 h82 f1a f1b f1c f1d; clear h17 κ; first | (simp_all; done) | (simp_all <;> omega) | grind), rfl⟩
    · skip
      rw [xo_y n4]
      refine z_as (st' := [.ref (σ 10 (w 17 (m)))]) (lv' := [(0, .ref (b))]) rfl rfl rfl ?_
      refine z_ifnull C 17 dX10_isFit_14 rfl ?_
      refine z_aload_n C 18 0 dX10_isFit_17 rfl rfl ?_
      refine z_callO (owner := RX10) (As := []) (rest := []) C hκ hκl 21 (k12_type_12 hX hs hw hT (b) (m) (x) hb ⟨by omega, by omega⟩ r_x) dX10_isFit_18 q1110 q1112 q1111 q1138 q1130 q1128 q106 q1129 ⟨by decide, by decide, rfl⟩ (Nat.le_of_ble_eq_true rfl) (Nat.le_of_ble_eq_true rfl) (Nat.le_of_ble_eq_true rfl) (Nat.le_of_ble_eq_true rfl) (zrec_P hb) rfl rfl (Nat.le_of_ble_eq_true rfl) rfl (fun v9 Q9 h9 => ?_)
      obtain ⟨rfl, rfl⟩ := h9
      refine z_as (st' := [va_rf (xo σ 10 (xpI w (m) (x)))]) rfl rfl rfl ?_
      rcases Int.lt_or_le (xpI w (m) (x)) 0 with n5 | n5
      · skip
        rw [xo_n n5]
        refine z_as (st' := [.null]) (lv' := [(0, .ref (b))]) rfl rfl rfl ?_
        refine z_ifnullN C 41 dX10_isFit_21 (by decide) ?_
        refine z_iconst C 42 dX10_isFit_41 rfl ?_
        refine z_goto C 46 dX10_isFit_42 (by decide) ?_
        refine z_as (st' := [.int (iI (bI (true)))]) rfl rfl rfl ?_
        exact z_iret C dX10_isFit_46 (bI_nar _) (Nat.le_of_ble_eq_true rfl) (Nat.le_of_ble_eq_true rfl) ⟨congrArg (fun b => some (Value.int (iI (bI b)))) (by clear C hκ hκl hS hB hB1 hB2 hB3 hB4 hB5 hB6 hC hw hX hs hT h81 h82 f1a f1b f1c f1d; clear h17 κ; first | (simp_all; done) | (simp_all <;> omega) | grind), rfl⟩
      · skip
        rw [xo_y n5]
        refine z_as (st' := [.ref (σ 10 (xpI w (m) (x)))]) (lv' := [(0, .ref (b))]) rfl rfl rfl ?_
        refine z_ifnull C 24 dX10_isFit_21 rfl ?_
        refine z_aload_n C 25 0 dX10_isFit_24 rfl rfl ?_
        refine z_callO (owner := RX10) (As := []) (rest := []) C hκ hκl 28 (k12_type_12 hX hs hw hT (b) (m) (x) hb ⟨by omega, by omega⟩ r_x) dX10_isFit_25 q1110 q1112 q1111 q1138 q1130 q1128 q106 q1129 ⟨by decide, by decide, rfl⟩ (Nat.le_of_ble_eq_true rfl) (Nat.le_of_ble_eq_true rfl) (Nat.le_of_ble_eq_true rfl) (Nat.le_of_ble_eq_true rfl) (zrec_P hb) rfl rfl (Nat.le_of_ble_eq_true rfl) rfl (fun v9 Q9 h9 => ?_)
        obtain ⟨rfl, rfl⟩ := h9
        refine z_as (st' := [va_rf (xo σ 10 (xpI w (m) (x)))]) rfl rfl rfl ?_
        refine z_aload_n C 29 0 dX10_isFit_28 rfl rfl ?_
        refine z_getf C hκ (v := .ref (σ 20 (m))) 32 0 zk_X12 hb (by decide) q772 (Or.inl rfl) rfl dX10_isFit_29 rfl ?_
        refine z_getf C hκ (v := va_rf (xo σ 10 (w 17 (m)))) 35 5 zk_X9 (hX.mem (by omega) (by omega)) (by decide) q671 (Or.inl rfl) rfl dX10_isFit_32 rfl ?_
        have y6 : 0 ≤ xpI w (m) (x) := (by omega)
        rw [xo_y y6]
        refine z_as (st' := [va_rf (xo σ 10 (w 17 (m))), .ref (σ 10 (xpI w (m) (x)))]) (lv' := [(0, .ref (b))]) rfl rfl rfl ?_
        have y7 : 0 ≤ w 17 (m) := (by omega)
        rw [xo_y y7]
        refine z_as (st' := [.ref (σ 10 (w 17 (m))), .ref (σ 10 (xpI w (m) (x)))]) (lv' := [(0, .ref (b))]) rfl rfl rfl ?_
        obtain ⟨f8a, f8b, f8c, f8d, f8e, f8f, f8g, f8h⟩ := hS.T (show 0 ≤ xpI w (m) (x) by omega) (by omega)
        obtain ⟨f8i, f8j, f8k, f8l⟩ := hs.ty (show 0 ≤ xpI w (m) (x) by omega) (by omega)
        obtain ⟨f9a, f9b, f9c, f9d, f9e, f9f, f9g, f9h⟩ := hS.T (show 0 ≤ w 17 (m) by omega) (by omega)
        obtain ⟨f9i, f9j, f9k, f9l⟩ := hs.ty (show 0 ≤ w 17 (m) by omega) (by omega)
        refine xv_is (rest := []) C hκ hκl hX hs hw hT (xpI w (m) (x)) (w 17 (m)) ⟨(by omega), (by omega)⟩ ⟨(by omega), (by omega)⟩ 38 dX10_isFit_35 q1069 (Nat.le_of_ble_eq_true rfl) (Nat.le_of_ble_eq_true rfl) (Nat.le_of_ble_eq_true rfl) (Nat.le_of_ble_eq_true rfl) (Nat.le_of_ble_eq_true rfl) rfl ?_
        refine z_as (st' := [.int (iI (bI (giB w (xpI w (m) (x)) (w 17 (m)))))]) rfl rfl rfl ?_
        refine z_ifB_eq C 45 41 dX10_isFit_38 (by decide) rfl (fun c10 => ?_) (fun c10 => ?_)
        · skip
          refine z_iconst C 46 dX10_isFit_45 rfl ?_
          refine z_as (st' := [.int (iI (bI (false)))]) rfl rfl rfl ?_
          exact z_iret C dX10_isFit_46 (bI_nar _) (Nat.le_of_ble_eq_true rfl) (Nat.le_of_ble_eq_true rfl) ⟨congrArg (fun b => some (Value.int (iI (bI b)))) (by clear C hκ hκl hS hB hB1 hB2 hB3 hB4 hB5 hB6 hC hw hX hs hT h81 h82 f1a f1b f1c f1d f8a f8b f8c f8d f8e f8f f8g f8h f8i f8j f8k f8l f9a f9b f9c f9d f9e f9f f9g f9h f9i f9j f9k f9l; clear h17 κ; first | (simp_all; done) | (simp_all <;> omega) | grind), rfl⟩
        · skip
          refine z_iconst C 42 dX10_isFit_41 rfl ?_
          refine z_goto C 46 dX10_isFit_42 (by decide) ?_
          refine z_as (st' := [.int (iI (bI (true)))]) rfl rfl rfl ?_
          exact z_iret C dX10_isFit_46 (bI_nar _) (Nat.le_of_ble_eq_true rfl) (Nat.le_of_ble_eq_true rfl) ⟨congrArg (fun b => some (Value.int (iI (bI b)))) (by clear C hκ hκl hS hB hB1 hB2 hB3 hB4 hB5 hB6 hC hw hX hs hT h81 h82 f1a f1b f1c f1d f8a f8b f8c f8d f8e f8f f8g f8h f8i f8j f8k f8l f9a f9b f9c f9d f9e f9f f9g f9h f9i f9j f9k f9l; clear h17 κ; first | (simp_all; done) | (simp_all <;> omega) | grind), rfl⟩
set_option maxRecDepth 100000 in
theorem k10_isFit_13 {l : Launch} {θ : zTh} {σ : xA} {w : mW} {M N : zMap} (hX : xM θ σ w (xL w) M) (hs : xS w) (hw : mWF w) (hT : zTb θ) (b : Nat) (m : Int) (f : Int)  (hb : M b = some (.inr (13, [.ref (σ 20 (m)), .ref (σ 0 (0)), va_rf (xo σ 20 (f)), .ref (σ 0 (0))]))) (hm : 0 ≤ m ∧ m < w 11 0) (hf : -1 ≤ f ∧ f < w 11 0) (h17 : ∀ f : Int, 0 ≤ f → f < w 11 0 → w 16 f = 1 → 0 ≤ w 17 f) : ZM θ l yX10_isFit cX10_isFit 1 (some .boolean) ⟨249, 0, 0, 2571⟩ [.ref (b)] (zP θ M N) (zFn (some (.int (iI (bI (decide (0 ≤ f) && (mb w 16 f && reB w m f) && (decide (w 17 f = -1) || decide (w 17 m = -1) || giB w (w 17 f) (w 17 m))))))) (zP θ M N)) := by
  refine z_start (own := RX10) (nm := "isFit") pnX10 rfl rfl (Nat.le_of_ble_eq_true rfl) ?_
  intro κ hκ hκl C
  change Z κ (zP θ M N) 0 0 0 [(0, .ref (b))] []
  have hS := hs.S
  have hB := hS.B
  obtain ⟨hB1, hB2, hB3, hB4, hB5, hB6⟩ := hS.B
  have hC := hS.C
  obtain ⟨h81, h82⟩ := hs.r8
  obtain ⟨f1a, f1b, f1c, f1d⟩ := hS.M (show 0 ≤ m by omega) (by omega)
  have k17 : -1 ≤ w 17 m := by omega
  refine z_aload_n C 1 0 dX10_isFit_0 rfl rfl ?_
  refine z_callO (owner := RX10) (As := []) (rest := []) C hκ hκl 4 (k13_isWell_13 hX hs hw hT (b) (m) (f) hb ⟨by omega, by omega⟩ ⟨by omega, by omega⟩) dX10_isFit_1 q1025 q1027 q1026 q1109 q1094 q1095 q107 q1096 ⟨by decide, by decide, rfl⟩ (Nat.le_of_ble_eq_true rfl) (Nat.le_of_ble_eq_true rfl) (Nat.le_of_ble_eq_true rfl) (Nat.le_of_ble_eq_true rfl) (zrec_P hb) rfl rfl (Nat.le_of_ble_eq_true rfl) rfl (fun v9 Q9 h9 => ?_)
  obtain ⟨rfl, rfl⟩ := h9
  refine z_as (st' := [.int (iI (bI (decide (0 ≤ (f)) && (mb w 16 (f) && reB w (m) (f)))))]) rfl rfl rfl ?_
  refine z_ifB_eq C 45 7 dX10_isFit_4 (by decide) rfl (fun c2 => ?_) (fun c2 => ?_)
  · skip
    refine z_iconst C 46 dX10_isFit_45 rfl ?_
    refine z_as (st' := [.int (iI (bI (false)))]) rfl rfl rfl ?_
    exact z_iret C dX10_isFit_46 (bI_nar _) (Nat.le_of_ble_eq_true rfl) (Nat.le_of_ble_eq_true rfl) ⟨congrArg (fun b => some (Value.int (iI (bI b)))) (by clear C hκ hκl hS hB hB1 hB2 hB3 hB4 hB5 hB6 hC hw hX hs hT h81 h82 f1a f1b f1c f1d; clear h17 κ; first | (simp_all; done) | (simp_all <;> omega) | grind), rfl⟩
  · skip
    have hf9 : 0 ≤ f := xWe_13 (by assumption)
    obtain ⟨f3a, f3b, f3c, f3d⟩ := hS.M (show 0 ≤ f by omega) (by omega)
    have k17f : -1 ≤ w 17 f := by omega
    refine z_aload_n C 8 0 dX10_isFit_7 rfl rfl ?_
    refine z_getf C hκ (v := .ref (σ 20 (m))) 11 0 zk_X13 hb (by decide) q772 (Or.inl rfl) rfl dX10_isFit_8 rfl ?_
    refine z_getf C hκ (v := va_rf (xo σ 10 (w 17 (m)))) 14 5 zk_X9 (hX.mem (by omega) (by omega)) (by decide) q671 (Or.inl rfl) rfl dX10_isFit_11 rfl ?_
    rcases Int.lt_or_le (w 17 (m)) 0 with n4 | n4
    · skip
      rw [xo_n n4]
      refine z_as (st' := [.null]) (lv' := [(0, .ref (b))]) rfl rfl rfl ?_
      refine z_ifnullN C 41 dX10_isFit_14 (by decide) ?_
      refine z_iconst C 42 dX10_isFit_41 rfl ?_
      refine z_goto C 46 dX10_isFit_42 (by decide) ?_
      refine z_as (st' := [.int (iI (bI (true)))]) rfl rfl rfl ?_
      exact z_iret C dX10_isFit_46 (bI_nar _) (Nat.le_of_ble_eq_true rfl) (Nat.le_of_ble_eq_true rfl) ⟨congrArg (fun b => some (Value.int (iI (bI b)))) (by clear C hκ hκl hS hB hB1 hB2 hB3 hB4 hB5 hB6 hC hw hX hs hT h81 h82 f1a f1b f1c f1d f3a f3b f3c f3d; clear h17 κ; first | (simp_all; done) | (simp_all <;> omega) | grind), rfl⟩
    · skip
      rw [xo_y n4]
      refine z_as (st' := [.ref (σ 10 (w 17 (m)))]) (lv' := [(0, .ref (b))]) rfl rfl rfl ?_
      refine z_ifnull C 17 dX10_isFit_14 rfl ?_
      refine z_aload_n C 18 0 dX10_isFit_17 rfl rfl ?_
      refine z_callO (owner := RX10) (As := []) (rest := []) C hκ hκl 21 (k13_type_13 hX hs hw hT (b) (m) (f) hb ⟨by omega, by omega⟩ ⟨by omega, by omega⟩ (by omega)) dX10_isFit_18 q1110 q1112 q1111 q1138 q1132 q1133 q107 q1134 ⟨by decide, by decide, rfl⟩ (Nat.le_of_ble_eq_true rfl) (Nat.le_of_ble_eq_true rfl) (Nat.le_of_ble_eq_true rfl) (Nat.le_of_ble_eq_true rfl) (zrec_P hb) rfl rfl (Nat.le_of_ble_eq_true rfl) rfl (fun v9 Q9 h9 => ?_)
      obtain ⟨rfl, rfl⟩ := h9
      refine z_as (st' := [va_rf (xo σ 10 (w 17 (f)))]) rfl rfl rfl ?_
      rcases Int.lt_or_le (w 17 (f)) 0 with n5 | n5
      · skip
        rw [xo_n n5]
        refine z_as (st' := [.null]) (lv' := [(0, .ref (b))]) rfl rfl rfl ?_
        refine z_ifnullN C 41 dX10_isFit_21 (by decide) ?_
        refine z_iconst C 42 dX10_isFit_41 rfl ?_
        refine z_goto C 46 dX10_isFit_42 (by decide) ?_
        refine z_as (st' := [.int (iI (bI (true)))]) rfl rfl rfl ?_
        exact z_iret C dX10_isFit_46 (bI_nar _) (Nat.le_of_ble_eq_true rfl) (Nat.le_of_ble_eq_true rfl) ⟨congrArg (fun b => some (Value.int (iI (bI b)))) (by clear C hκ hκl hS hB hB1 hB2 hB3 hB4 hB5 hB6 hC hw hX hs hT h81 h82 f1a f1b f1c f1d f3a f3b f3c f3d; clear h17 κ; first | (simp_all; done) | (simp_all <;> omega) | grind), rfl⟩
      · skip
        rw [xo_y n5]
        refine z_as (st' := [.ref (σ 10 (w 17 (f)))]) (lv' := [(0, .ref (b))]) rfl rfl rfl ?_
        refine z_ifnull C 24 dX10_isFit_21 rfl ?_
        refine z_aload_n C 25 0 dX10_isFit_24 rfl rfl ?_
        refine z_callO (owner := RX10) (As := []) (rest := []) C hκ hκl 28 (k13_type_13 hX hs hw hT (b) (m) (f) hb ⟨by omega, by omega⟩ ⟨by omega, by omega⟩ (by omega)) dX10_isFit_25 q1110 q1112 q1111 q1138 q1132 q1133 q107 q1134 ⟨by decide, by decide, rfl⟩ (Nat.le_of_ble_eq_true rfl) (Nat.le_of_ble_eq_true rfl) (Nat.le_of_ble_eq_true rfl) (Nat.le_of_ble_eq_true rfl) (zrec_P hb) rfl rfl (Nat.le_of_ble_eq_true rfl) rfl (fun v9 Q9 h9 => ?_)
        obtain ⟨rfl, rfl⟩ := h9
        refine z_as (st' := [va_rf (xo σ 10 (w 17 (f)))]) rfl rfl rfl ?_
        refine z_aload_n C 29 0 dX10_isFit_28 rfl rfl ?_
        refine z_getf C hκ (v := .ref (σ 20 (m))) 32 0 zk_X13 hb (by decide) q772 (Or.inl rfl) rfl dX10_isFit_29 rfl ?_
        refine z_getf C hκ (v := va_rf (xo σ 10 (w 17 (m)))) 35 5 zk_X9 (hX.mem (by omega) (by omega)) (by decide) q671 (Or.inl rfl) rfl dX10_isFit_32 rfl ?_
        have y6 : 0 ≤ w 17 (f) := (by omega)
        rw [xo_y y6]
        refine z_as (st' := [va_rf (xo σ 10 (w 17 (m))), .ref (σ 10 (w 17 (f)))]) (lv' := [(0, .ref (b))]) rfl rfl rfl ?_
        have y7 : 0 ≤ w 17 (m) := (by omega)
        rw [xo_y y7]
        refine z_as (st' := [.ref (σ 10 (w 17 (m))), .ref (σ 10 (w 17 (f)))]) (lv' := [(0, .ref (b))]) rfl rfl rfl ?_
        obtain ⟨f8a, f8b, f8c, f8d, f8e, f8f, f8g, f8h⟩ := hS.T (show 0 ≤ w 17 (f) by omega) (by omega)
        obtain ⟨f8i, f8j, f8k, f8l⟩ := hs.ty (show 0 ≤ w 17 (f) by omega) (by omega)
        obtain ⟨f9a, f9b, f9c, f9d, f9e, f9f, f9g, f9h⟩ := hS.T (show 0 ≤ w 17 (m) by omega) (by omega)
        obtain ⟨f9i, f9j, f9k, f9l⟩ := hs.ty (show 0 ≤ w 17 (m) by omega) (by omega)
        refine xv_is (rest := []) C hκ hκl hX hs hw hT (w 17 (f)) (w 17 (m)) ⟨(by omega), (by omega)⟩ ⟨(by omega), (by omega)⟩ 38 dX10_isFit_35 q1069 (Nat.le_of_ble_eq_true rfl) (Nat.le_of_ble_eq_true rfl) (Nat.le_of_ble_eq_true rfl) (Nat.le_of_ble_eq_true rfl) (Nat.le_of_ble_eq_true rfl) rfl ?_
        refine z_as (st' := [.int (iI (bI (giB w (w 17 (f)) (w 17 (m)))))]) rfl rfl rfl ?_
        refine z_ifB_eq C 45 41 dX10_isFit_38 (by decide) rfl (fun c10 => ?_) (fun c10 => ?_)
        · skip
          refine z_iconst C 46 dX10_isFit_45 rfl ?_
          refine z_as (st' := [.int (iI (bI (false)))]) rfl rfl rfl ?_
          exact z_iret C dX10_isFit_46 (bI_nar _) (Nat.le_of_ble_eq_true rfl) (Nat.le_of_ble_eq_true rfl) ⟨congrArg (fun b => some (Value.int (iI (bI b)))) (by clear C hκ hκl hS hB hB1 hB2 hB3 hB4 hB5 hB6 hC hw hX hs hT h81 h82 f1a f1b f1c f1d f3a f3b f3c f3d f8a f8b f8c f8d f8e f8f f8g f8h f8i f8j f8k f8l f9a f9b f9c f9d f9e f9f f9g f9h f9i f9j f9k f9l; clear h17 κ; first | (simp_all; done) | (simp_all <;> omega) | grind), rfl⟩
        · skip
          refine z_iconst C 42 dX10_isFit_41 rfl ?_
          refine z_goto C 46 dX10_isFit_42 (by decide) ?_
          refine z_as (st' := [.int (iI (bI (true)))]) rfl rfl rfl ?_
          exact z_iret C dX10_isFit_46 (bI_nar _) (Nat.le_of_ble_eq_true rfl) (Nat.le_of_ble_eq_true rfl) ⟨congrArg (fun b => some (Value.int (iI (bI b)))) (by clear C hκ hκl hS hB hB1 hB2 hB3 hB4 hB5 hB6 hC hw hX hs hT h81 h82 f1a f1b f1c f1d f3a f3b f3c f3d f8a f8b f8c f8d f8e f8f f8g f8h f8i f8j f8k f8l f9a f9b f9c f9d f9e f9f f9g f9h f9i f9j f9k f9l; clear h17 κ; first | (simp_all; done) | (simp_all <;> omega) | grind), rfl⟩
set_option maxRecDepth 100000 in
theorem k10_isFit_14 {l : Launch} {θ : zTh} {σ : xA} {w : mW} {M N : zMap} (hX : xM θ σ w (xL w) M) (hs : xS w) (hw : mWF w) (hT : zTb θ) (b : Nat) (m : Int) (f : Int) (y : Int)  (hb : M b = some (.inr (14, [.ref (σ 20 (m)), .ref (σ 0 (0)), va_rf (xo σ 20 (f)), .ref (σ 0 (0)), .int (iI (y)), .ref (σ 0 (0))]))) (hm : 0 ≤ m ∧ m < w 11 0) (hf : -1 ≤ f ∧ f < w 11 0) (r_y : inR y) (h17 : ∀ f : Int, 0 ≤ f → f < w 11 0 → w 16 f = 1 → 0 ≤ w 17 f) : ZM θ l yX10_isFit cX10_isFit 1 (some .boolean) ⟨250, 0, 0, 2591⟩ [.ref (b)] (zP θ M N) (zFn (some (.int (iI (bI (xWe w m 14 0 y f && (decide ((-1) = -1) || decide (w 17 m = -1) || giB w ((-1)) (w 17 m))))))) (zP θ M N)) := by
  refine z_start (own := RX10) (nm := "isFit") pnX10 rfl rfl (Nat.le_of_ble_eq_true rfl) ?_
  intro κ hκ hκl C
  change Z κ (zP θ M N) 0 0 0 [(0, .ref (b))] []
  have hS := hs.S
  have hB := hS.B
  obtain ⟨hB1, hB2, hB3, hB4, hB5, hB6⟩ := hS.B
  have hC := hS.C
  obtain ⟨h81, h82⟩ := hs.r8
  obtain ⟨f1a, f1b, f1c, f1d⟩ := hS.M (show 0 ≤ m by omega) (by omega)
  have k17 : -1 ≤ w 17 m := by omega
  refine z_aload_n C 1 0 dX10_isFit_0 rfl rfl ?_
  refine z_callO (owner := RX10) (As := []) (rest := []) C hκ hκl 4 (k14_isWell_14 hX hs hw hT (b) (m) (f) (y) hb ⟨by omega, by omega⟩ ⟨by omega, by omega⟩ r_y h17) dX10_isFit_1 q1025 q1027 q1026 q1109 q1101 q1102 q108 q1103 ⟨by decide, by decide, rfl⟩ (Nat.le_of_ble_eq_true rfl) (Nat.le_of_ble_eq_true rfl) (Nat.le_of_ble_eq_true rfl) (Nat.le_of_ble_eq_true rfl) (zrec_P hb) rfl rfl (Nat.le_of_ble_eq_true rfl) rfl (fun v9 Q9 h9 => ?_)
  obtain ⟨rfl, rfl⟩ := h9
  refine z_as (st' := [.int (iI (bI (xWe w (m) 14 0 (y) (f))))]) rfl rfl rfl ?_
  refine z_ifB_eq C 45 7 dX10_isFit_4 (by decide) rfl (fun c2 => ?_) (fun c2 => ?_)
  · skip
    refine z_iconst C 46 dX10_isFit_45 rfl ?_
    refine z_as (st' := [.int (iI (bI (false)))]) rfl rfl rfl ?_
    exact z_iret C dX10_isFit_46 (bI_nar _) (Nat.le_of_ble_eq_true rfl) (Nat.le_of_ble_eq_true rfl) ⟨congrArg (fun b => some (Value.int (iI (bI b)))) (by clear C hκ hκl hS hB hB1 hB2 hB3 hB4 hB5 hB6 hC hw hX hs hT h81 h82 f1a f1b f1c f1d; clear h17 κ; first | (simp_all; done) | (simp_all <;> omega) | grind), rfl⟩
  · skip
    refine z_aload_n C 8 0 dX10_isFit_7 rfl rfl ?_
    refine z_getf C hκ (v := .ref (σ 20 (m))) 11 0 zk_X14 hb (by decide) q772 (Or.inl rfl) rfl dX10_isFit_8 rfl ?_
    refine z_getf C hκ (v := va_rf (xo σ 10 (w 17 (m)))) 14 5 zk_X9 (hX.mem (by omega) (by omega)) (by decide) q671 (Or.inl rfl) rfl dX10_isFit_11 rfl ?_
    rcases Int.lt_or_le (w 17 (m)) 0 with n3 | n3
    · skip
      rw [xo_n n3]
      refine z_as (st' := [.null]) (lv' := [(0, .ref (b))]) rfl rfl rfl ?_
      refine z_ifnullN C 41 dX10_isFit_14 (by decide) ?_
      refine z_iconst C 42 dX10_isFit_41 rfl ?_
      refine z_goto C 46 dX10_isFit_42 (by decide) ?_
      refine z_as (st' := [.int (iI (bI (true)))]) rfl rfl rfl ?_
      exact z_iret C dX10_isFit_46 (bI_nar _) (Nat.le_of_ble_eq_true rfl) (Nat.le_of_ble_eq_true rfl) ⟨congrArg (fun b => some (Value.int (iI (bI b)))) (by clear C hκ hκl hS hB hB1 hB2 hB3 hB4 hB5 hB6 hC hw hX hs hT h81 h82 f1a f1b f1c f1d; clear h17 κ; first | (simp_all; done) | (simp_all <;> omega) | grind), rfl⟩
    · skip
      rw [xo_y n3]
      refine z_as (st' := [.ref (σ 10 (w 17 (m)))]) (lv' := [(0, .ref (b))]) rfl rfl rfl ?_
      refine z_ifnull C 17 dX10_isFit_14 rfl ?_
      refine z_aload_n C 18 0 dX10_isFit_17 rfl rfl ?_
      refine z_callO (owner := RX10) (As := []) (rest := []) C hκ hκl 21 (k14_type_14 hX hs hw hT (b) (m) (f) (y) hb ⟨by omega, by omega⟩ ⟨by omega, by omega⟩ r_y) dX10_isFit_18 q1110 q1112 q1111 q1138 q1135 q1136 q108 q1137 ⟨by decide, by decide, rfl⟩ (Nat.le_of_ble_eq_true rfl) (Nat.le_of_ble_eq_true rfl) (Nat.le_of_ble_eq_true rfl) (Nat.le_of_ble_eq_true rfl) (zrec_P hb) rfl rfl (Nat.le_of_ble_eq_true rfl) rfl (fun v9 Q9 h9 => ?_)
      obtain ⟨rfl, rfl⟩ := h9
      refine z_as (st' := [va_rf (xo σ 10 (-1))]) rfl rfl rfl ?_
      have n4 : (-1 : Int) < 0 := by decide
      rw [xo_n n4]
      refine z_as (st' := [.null]) (lv' := [(0, .ref (b))]) rfl rfl rfl ?_
      refine z_ifnullN C 41 dX10_isFit_21 (by decide) ?_
      refine z_iconst C 42 dX10_isFit_41 rfl ?_
      refine z_goto C 46 dX10_isFit_42 (by decide) ?_
      refine z_as (st' := [.int (iI (bI (true)))]) rfl rfl rfl ?_
      exact z_iret C dX10_isFit_46 (bI_nar _) (Nat.le_of_ble_eq_true rfl) (Nat.le_of_ble_eq_true rfl) ⟨congrArg (fun b => some (Value.int (iI (bI b)))) (by clear C hκ hκl hS hB hB1 hB2 hB3 hB4 hB5 hB6 hC hw hX hs hT h81 h82 f1a f1b f1c f1d; clear h17 κ; first | (simp_all; done) | (simp_all <;> omega) | grind), rfl⟩
set_option maxRecDepth 100000 in
theorem k10_isFit_15 {l : Launch} {θ : zTh} {σ : xA} {w : mW} {M N : zMap} (hX : xM θ σ w (xL w) M) (hs : xS w) (hw : mWF w) (hT : zTb θ) (b : Nat) (m : Int) (x : Int)  (hb : M b = some (.inr (15, [.ref (σ 20 (m)), .ref (σ 0 (0)), .int (iI (x)), .ref (σ 0 (0))]))) (hm : 0 ≤ m ∧ m < w 11 0) (r_x : inR x) (h17 : ∀ f : Int, 0 ≤ f → f < w 11 0 → w 16 f = 1 → 0 ≤ w 17 f) : ZM θ l yX10_isFit cX10_isFit 1 (some .boolean) ⟨2, 0, 0, 45⟩ [.ref (b)] (zP θ M N) (zFn (some (.int (iI (bI (xWe w m 15 x 0 0 && (decide ((-1) = -1) || decide (w 17 m = -1) || giB w ((-1)) (w 17 m))))))) (zP θ M N)) := by
  refine z_start (own := RX10) (nm := "isFit") pnX10 rfl rfl (Nat.le_of_ble_eq_true rfl) ?_
  intro κ hκ hκl C
  change Z κ (zP θ M N) 0 0 0 [(0, .ref (b))] []
  have hS := hs.S
  have hB := hS.B
  obtain ⟨hB1, hB2, hB3, hB4, hB5, hB6⟩ := hS.B
  have hC := hS.C
  obtain ⟨h81, h82⟩ := hs.r8
  obtain ⟨f1a, f1b, f1c, f1d⟩ := hS.M (show 0 ≤ m by omega) (by omega)
  have k17 : -1 ≤ w 17 m := by omega
  refine z_aload_n C 1 0 dX10_isFit_0 rfl rfl ?_
  refine z_callO (owner := RX10) (As := []) (rest := []) C hκ hκl 4 (k15_isWell_15 hX hs hw hT (b) (m) (x) hb ⟨by omega, by omega⟩ r_x) dX10_isFit_1 q1025 q1027 q1026 q1109 q1071 q1072 q109 q1073 ⟨by decide, by decide, rfl⟩ (Nat.le_of_ble_eq_true rfl) (Nat.le_of_ble_eq_true rfl) (Nat.le_of_ble_eq_true rfl) (Nat.le_of_ble_eq_true rfl) (zrec_P hb) rfl rfl (Nat.le_of_ble_eq_true rfl) rfl (fun v9 Q9 h9 => ?_)
  obtain ⟨rfl, rfl⟩ := h9
  refine z_as (st' := [.int (iI (bI (xWe w (m) 15 (x) 0 0)))]) rfl rfl rfl ?_
  refine z_ifB_eq C 45 7 dX10_isFit_4 (by decide) rfl (fun c2 => ?_) (fun c2 => ?_)
  · skip
    refine z_iconst C 46 dX10_isFit_45 rfl ?_
    refine z_as (st' := [.int (iI (bI (false)))]) rfl rfl rfl ?_
    exact z_iret C dX10_isFit_46 (bI_nar _) (Nat.le_of_ble_eq_true rfl) (Nat.le_of_ble_eq_true rfl) ⟨congrArg (fun b => some (Value.int (iI (bI b)))) (by clear C hκ hκl hS hB hB1 hB2 hB3 hB4 hB5 hB6 hC hw hX hs hT h81 h82 f1a f1b f1c f1d; clear h17 κ; first | (simp_all; done) | (simp_all <;> omega) | grind), rfl⟩
  · skip
    refine z_aload_n C 8 0 dX10_isFit_7 rfl rfl ?_
    refine z_getf C hκ (v := .ref (σ 20 (m))) 11 0 zk_X15 hb (by decide) q772 (Or.inl rfl) rfl dX10_isFit_8 rfl ?_
    refine z_getf C hκ (v := va_rf (xo σ 10 (w 17 (m)))) 14 5 zk_X9 (hX.mem (by omega) (by omega)) (by decide) q671 (Or.inl rfl) rfl dX10_isFit_11 rfl ?_
    rcases Int.lt_or_le (w 17 (m)) 0 with n3 | n3
    · skip
      rw [xo_n n3]
      refine z_as (st' := [.null]) (lv' := [(0, .ref (b))]) rfl rfl rfl ?_
      refine z_ifnullN C 41 dX10_isFit_14 (by decide) ?_
      refine z_iconst C 42 dX10_isFit_41 rfl ?_
      refine z_goto C 46 dX10_isFit_42 (by decide) ?_
      refine z_as (st' := [.int (iI (bI (true)))]) rfl rfl rfl ?_
      exact z_iret C dX10_isFit_46 (bI_nar _) (Nat.le_of_ble_eq_true rfl) (Nat.le_of_ble_eq_true rfl) ⟨congrArg (fun b => some (Value.int (iI (bI b)))) (by clear C hκ hκl hS hB hB1 hB2 hB3 hB4 hB5 hB6 hC hw hX hs hT h81 h82 f1a f1b f1c f1d; clear h17 κ; first | (simp_all; done) | (simp_all <;> omega) | grind), rfl⟩
    · skip
      rw [xo_y n3]
      refine z_as (st' := [.ref (σ 10 (w 17 (m)))]) (lv' := [(0, .ref (b))]) rfl rfl rfl ?_
      refine z_ifnull C 17 dX10_isFit_14 rfl ?_
      refine z_aload_n C 18 0 dX10_isFit_17 rfl rfl ?_
      refine z_callU (owner := RX10) (As := []) (rest := []) C hκ hκl 21 (k10_type_15 hX hs hw hT (b) (m) (x) hb ⟨by omega, by omega⟩ r_x) dX10_isFit_18 q1110 q1112 q1123 q1111 q104 q1138 rfl ⟨by decide, by decide, rfl⟩ (Nat.le_of_ble_eq_true rfl) (Nat.le_of_ble_eq_true rfl) (Nat.le_of_ble_eq_true rfl) (Nat.le_of_ble_eq_true rfl) (zrec_P hb) rfl rfl (Nat.le_of_ble_eq_true rfl) rfl (fun v9 Q9 h9 => ?_)
      obtain ⟨rfl, rfl⟩ := h9
      refine z_as (st' := [va_rf (xo σ 10 (-1))]) rfl rfl rfl ?_
      have n4 : (-1 : Int) < 0 := by decide
      rw [xo_n n4]
      refine z_as (st' := [.null]) (lv' := [(0, .ref (b))]) rfl rfl rfl ?_
      refine z_ifnullN C 41 dX10_isFit_21 (by decide) ?_
      refine z_iconst C 42 dX10_isFit_41 rfl ?_
      refine z_goto C 46 dX10_isFit_42 (by decide) ?_
      refine z_as (st' := [.int (iI (bI (true)))]) rfl rfl rfl ?_
      exact z_iret C dX10_isFit_46 (bI_nar _) (Nat.le_of_ble_eq_true rfl) (Nat.le_of_ble_eq_true rfl) ⟨congrArg (fun b => some (Value.int (iI (bI b)))) (by clear C hκ hκl hS hB hB1 hB2 hB3 hB4 hB5 hB6 hC hw hX hs hT h81 h82 f1a f1b f1c f1d; clear h17 κ; first | (simp_all; done) | (simp_all <;> omega) | grind), rfl⟩
set_option maxRecDepth 100000 in
theorem k10_isFit_16 {l : Launch} {θ : zTh} {σ : xA} {w : mW} {M N : zMap} (hX : xM θ σ w (xL w) M) (hs : xS w) (hw : mWF w) (hT : zTb θ) (b : Nat) (m : Int) (f : Int)  (hb : M b = some (.inr (16, [.ref (σ 20 (m)), .ref (σ 0 (0)), va_rf (xo σ 20 (f)), .ref (σ 0 (0))]))) (hm : 0 ≤ m ∧ m < w 11 0) (hf : -1 ≤ f ∧ f < w 11 0) (h17 : ∀ f : Int, 0 ≤ f → f < w 11 0 → w 16 f = 1 → 0 ≤ w 17 f) : ZM θ l yX10_isFit cX10_isFit 1 (some .boolean) ⟨249, 0, 0, 2573⟩ [.ref (b)] (zP θ M N) (zFn (some (.int (iI (bI (xWl w m f && allN (mcP w m f) (w 18 f).toNat && (decide (w 17 f = -1) || decide (w 17 m = -1) || giB w (w 17 f) (w 17 m))))))) (zP θ M N)) := by
  refine z_start (own := RX10) (nm := "isFit") pnX10 rfl rfl (Nat.le_of_ble_eq_true rfl) ?_
  intro κ hκ hκl C
  change Z κ (zP θ M N) 0 0 0 [(0, .ref (b))] []
  have hS := hs.S
  have hB := hS.B
  obtain ⟨hB1, hB2, hB3, hB4, hB5, hB6⟩ := hS.B
  have hC := hS.C
  obtain ⟨h81, h82⟩ := hs.r8
  obtain ⟨f1a, f1b, f1c, f1d⟩ := hS.M (show 0 ≤ m by omega) (by omega)
  have k17 : -1 ≤ w 17 m := by omega
  refine z_aload_n C 1 0 dX10_isFit_0 rfl rfl ?_
  refine z_callO (owner := RX10) (As := []) (rest := []) C hκ hκl 4 (k16_isWell_16 hX hs hw hT (b) (m) (f) hb ⟨by omega, by omega⟩ ⟨by omega, by omega⟩) dX10_isFit_1 q1025 q1027 q1026 q1109 q1058 q1059 q110 q1060 ⟨by decide, by decide, rfl⟩ (Nat.le_of_ble_eq_true rfl) (Nat.le_of_ble_eq_true rfl) (Nat.le_of_ble_eq_true rfl) (Nat.le_of_ble_eq_true rfl) (zrec_P hb) rfl rfl (Nat.le_of_ble_eq_true rfl) rfl (fun v9 Q9 h9 => ?_)
  obtain ⟨rfl, rfl⟩ := h9
  refine z_as (st' := [.int (iI (bI (xWl w (m) (f) && allN (mcP w (m) (f)) (w 18 (f)).toNat)))]) rfl rfl rfl ?_
  refine z_ifB_eq C 45 7 dX10_isFit_4 (by decide) rfl (fun c2 => ?_) (fun c2 => ?_)
  · skip
    refine z_iconst C 46 dX10_isFit_45 rfl ?_
    refine z_as (st' := [.int (iI (bI (false)))]) rfl rfl rfl ?_
    exact z_iret C dX10_isFit_46 (bI_nar _) (Nat.le_of_ble_eq_true rfl) (Nat.le_of_ble_eq_true rfl) ⟨congrArg (fun b => some (Value.int (iI (bI b)))) (by clear C hκ hκl hS hB hB1 hB2 hB3 hB4 hB5 hB6 hC hw hX hs hT h81 h82 f1a f1b f1c f1d; clear h17 κ; first | (simp_all; done) | (simp_all <;> omega) | grind), rfl⟩
  · skip
    have hf9 : 0 ≤ f := xWe_16 (by assumption)
    obtain ⟨f3a, f3b, f3c, f3d⟩ := hS.M (show 0 ≤ f by omega) (by omega)
    have k17f : -1 ≤ w 17 f := by omega
    refine z_aload_n C 8 0 dX10_isFit_7 rfl rfl ?_
    refine z_getf C hκ (v := .ref (σ 20 (m))) 11 0 zk_X16 hb (by decide) q772 (Or.inl rfl) rfl dX10_isFit_8 rfl ?_
    refine z_getf C hκ (v := va_rf (xo σ 10 (w 17 (m)))) 14 5 zk_X9 (hX.mem (by omega) (by omega)) (by decide) q671 (Or.inl rfl) rfl dX10_isFit_11 rfl ?_
    rcases Int.lt_or_le (w 17 (m)) 0 with n4 | n4
    · skip
      rw [xo_n n4]
      refine z_as (st' := [.null]) (lv' := [(0, .ref (b))]) rfl rfl rfl ?_
      refine z_ifnullN C 41 dX10_isFit_14 (by decide) ?_
      refine z_iconst C 42 dX10_isFit_41 rfl ?_
      refine z_goto C 46 dX10_isFit_42 (by decide) ?_
      refine z_as (st' := [.int (iI (bI (true)))]) rfl rfl rfl ?_
      exact z_iret C dX10_isFit_46 (bI_nar _) (Nat.le_of_ble_eq_true rfl) (Nat.le_of_ble_eq_true rfl) ⟨congrArg (fun b => some (Value.int (iI (bI b)))) (by clear C hκ hκl hS hB hB1 hB2 hB3 hB4 hB5 hB6 hC hw hX hs hT h81 h82 f1a f1b f1c f1d f3a f3b f3c f3d; clear h17 κ; first | (simp_all; done) | (simp_all <;> omega) | grind), rfl⟩
    · skip
      rw [xo_y n4]
      refine z_as (st' := [.ref (σ 10 (w 17 (m)))]) (lv' := [(0, .ref (b))]) rfl rfl rfl ?_
      refine z_ifnull C 17 dX10_isFit_14 rfl ?_
      refine z_aload_n C 18 0 dX10_isFit_17 rfl rfl ?_
      refine z_callO (owner := RX10) (As := []) (rest := []) C hκ hκl 21 (k16_type_16 hX hs hw hT (b) (m) (f) hb ⟨by omega, by omega⟩ ⟨by omega, by omega⟩ (by omega)) dX10_isFit_18 q1110 q1112 q1111 q1138 q1122 q1114 q110 q1115 ⟨by decide, by decide, rfl⟩ (Nat.le_of_ble_eq_true rfl) (Nat.le_of_ble_eq_true rfl) (Nat.le_of_ble_eq_true rfl) (Nat.le_of_ble_eq_true rfl) (zrec_P hb) rfl rfl (Nat.le_of_ble_eq_true rfl) rfl (fun v9 Q9 h9 => ?_)
      obtain ⟨rfl, rfl⟩ := h9
      refine z_as (st' := [va_rf (xo σ 10 (w 17 (f)))]) rfl rfl rfl ?_
      rcases Int.lt_or_le (w 17 (f)) 0 with n5 | n5
      · skip
        rw [xo_n n5]
        refine z_as (st' := [.null]) (lv' := [(0, .ref (b))]) rfl rfl rfl ?_
        refine z_ifnullN C 41 dX10_isFit_21 (by decide) ?_
        refine z_iconst C 42 dX10_isFit_41 rfl ?_
        refine z_goto C 46 dX10_isFit_42 (by decide) ?_
        refine z_as (st' := [.int (iI (bI (true)))]) rfl rfl rfl ?_
        exact z_iret C dX10_isFit_46 (bI_nar _) (Nat.le_of_ble_eq_true rfl) (Nat.le_of_ble_eq_true rfl) ⟨congrArg (fun b => some (Value.int (iI (bI b)))) (by clear C hκ hκl hS hB hB1 hB2 hB3 hB4 hB5 hB6 hC hw hX hs hT h81 h82 f1a f1b f1c f1d f3a f3b f3c f3d; clear h17 κ; first | (simp_all; done) | (simp_all <;> omega) | grind), rfl⟩
      · skip
        rw [xo_y n5]
        refine z_as (st' := [.ref (σ 10 (w 17 (f)))]) (lv' := [(0, .ref (b))]) rfl rfl rfl ?_
        refine z_ifnull C 24 dX10_isFit_21 rfl ?_
        refine z_aload_n C 25 0 dX10_isFit_24 rfl rfl ?_
        refine z_callO (owner := RX10) (As := []) (rest := []) C hκ hκl 28 (k16_type_16 hX hs hw hT (b) (m) (f) hb ⟨by omega, by omega⟩ ⟨by omega, by omega⟩ (by omega)) dX10_isFit_25 q1110 q1112 q1111 q1138 q1122 q1114 q110 q1115 ⟨by decide, by decide, rfl⟩ (Nat.le_of_ble_eq_true rfl) (Nat.le_of_ble_eq_true rfl) (Nat.le_of_ble_eq_true rfl) (Nat.le_of_ble_eq_true rfl) (zrec_P hb) rfl rfl (Nat.le_of_ble_eq_true rfl) rfl (fun v9 Q9 h9 => ?_)
        obtain ⟨rfl, rfl⟩ := h9
        refine z_as (st' := [va_rf (xo σ 10 (w 17 (f)))]) rfl rfl rfl ?_
        refine z_aload_n C 29 0 dX10_isFit_28 rfl rfl ?_
        refine z_getf C hκ (v := .ref (σ 20 (m))) 32 0 zk_X16 hb (by decide) q772 (Or.inl rfl) rfl dX10_isFit_29 rfl ?_
        refine z_getf C hκ (v := va_rf (xo σ 10 (w 17 (m)))) 35 5 zk_X9 (hX.mem (by omega) (by omega)) (by decide) q671 (Or.inl rfl) rfl dX10_isFit_32 rfl ?_
        have y6 : 0 ≤ w 17 (f) := (by omega)
        rw [xo_y y6]
        refine z_as (st' := [va_rf (xo σ 10 (w 17 (m))), .ref (σ 10 (w 17 (f)))]) (lv' := [(0, .ref (b))]) rfl rfl rfl ?_
        have y7 : 0 ≤ w 17 (m) := (by omega)
        rw [xo_y y7]
        refine z_as (st' := [.ref (σ 10 (w 17 (m))), .ref (σ 10 (w 17 (f)))]) (lv' := [(0, .ref (b))]) rfl rfl rfl ?_
        obtain ⟨f8a, f8b, f8c, f8d, f8e, f8f, f8g, f8h⟩ := hS.T (show 0 ≤ w 17 (f) by omega) (by omega)
        obtain ⟨f8i, f8j, f8k, f8l⟩ := hs.ty (show 0 ≤ w 17 (f) by omega) (by omega)
        obtain ⟨f9a, f9b, f9c, f9d, f9e, f9f, f9g, f9h⟩ := hS.T (show 0 ≤ w 17 (m) by omega) (by omega)
        obtain ⟨f9i, f9j, f9k, f9l⟩ := hs.ty (show 0 ≤ w 17 (m) by omega) (by omega)
        refine xv_is (rest := []) C hκ hκl hX hs hw hT (w 17 (f)) (w 17 (m)) ⟨(by omega), (by omega)⟩ ⟨(by omega), (by omega)⟩ 38 dX10_isFit_35 q1069 (Nat.le_of_ble_eq_true rfl) (Nat.le_of_ble_eq_true rfl) (Nat.le_of_ble_eq_true rfl) (Nat.le_of_ble_eq_true rfl) (Nat.le_of_ble_eq_true rfl) rfl ?_
        refine z_as (st' := [.int (iI (bI (giB w (w 17 (f)) (w 17 (m)))))]) rfl rfl rfl ?_
        refine z_ifB_eq C 45 41 dX10_isFit_38 (by decide) rfl (fun c10 => ?_) (fun c10 => ?_)
        · skip
          refine z_iconst C 46 dX10_isFit_45 rfl ?_
          refine z_as (st' := [.int (iI (bI (false)))]) rfl rfl rfl ?_
          exact z_iret C dX10_isFit_46 (bI_nar _) (Nat.le_of_ble_eq_true rfl) (Nat.le_of_ble_eq_true rfl) ⟨congrArg (fun b => some (Value.int (iI (bI b)))) (by clear C hκ hκl hS hB hB1 hB2 hB3 hB4 hB5 hB6 hC hw hX hs hT h81 h82 f1a f1b f1c f1d f3a f3b f3c f3d f8a f8b f8c f8d f8e f8f f8g f8h f8i f8j f8k f8l f9a f9b f9c f9d f9e f9f f9g f9h f9i f9j f9k f9l; clear h17 κ; first | (simp_all; done) | (simp_all <;> omega) | grind), rfl⟩
        · skip
          refine z_iconst C 42 dX10_isFit_41 rfl ?_
          refine z_goto C 46 dX10_isFit_42 (by decide) ?_
          refine z_as (st' := [.int (iI (bI (true)))]) rfl rfl rfl ?_
          exact z_iret C dX10_isFit_46 (bI_nar _) (Nat.le_of_ble_eq_true rfl) (Nat.le_of_ble_eq_true rfl) ⟨congrArg (fun b => some (Value.int (iI (bI b)))) (by clear C hκ hκl hS hB hB1 hB2 hB3 hB4 hB5 hB6 hC hw hX hs hT h81 h82 f1a f1b f1c f1d f3a f3b f3c f3d f8a f8b f8c f8d f8e f8f f8g f8h f8i f8j f8k f8l f9a f9b f9c f9d f9e f9f f9g f9h f9i f9j f9k f9l; clear h17 κ; first | (simp_all; done) | (simp_all <;> omega) | grind), rfl⟩
set_option maxRecDepth 100000 in
theorem k10_isFit_17 {l : Launch} {θ : zTh} {σ : xA} {w : mW} {M N : zMap} (hX : xM θ σ w (xL w) M) (hs : xS w) (hw : mWF w) (hT : zTb θ) (b : Nat) (m : Int) (x : Int) (y : Int)  (hb : M b = some (.inr (17, [.ref (σ 20 (m)), .ref (σ 0 (0)), .int (iI (x)), .ref (σ 0 (0)), .int (iI (y)), .ref (σ 0 (0))]))) (hm : 0 ≤ m ∧ m < w 11 0) (r_x : inR x) (r_y : inR y) (h17 : ∀ f : Int, 0 ≤ f → f < w 11 0 → w 16 f = 1 → 0 ≤ w 17 f) : ZM θ l yX10_isFit cX10_isFit 1 (some .boolean) ⟨247, 0, 0, 2530⟩ [.ref (b)] (zP θ M N) (zFn (some (.int (iI (bI (xWe w m 17 x y 0 && (decide (suI (xpI w m x) (xpI w m y) = -1) || decide (w 17 m = -1) || giB w (suI (xpI w m x) (xpI w m y)) (w 17 m))))))) (zP θ M N)) := by
  refine z_start (own := RX10) (nm := "isFit") pnX10 rfl rfl (Nat.le_of_ble_eq_true rfl) ?_
  intro κ hκ hκl C
  change Z κ (zP θ M N) 0 0 0 [(0, .ref (b))] []
  have hS := hs.S
  have hB := hS.B
  obtain ⟨hB1, hB2, hB3, hB4, hB5, hB6⟩ := hS.B
  have hC := hS.C
  obtain ⟨h81, h82⟩ := hs.r8
  obtain ⟨f1a, f1b, f1c, f1d⟩ := hS.M (show 0 ≤ m by omega) (by omega)
  have k17 : -1 ≤ w 17 m := by omega
  have hp2 := xpI_r hS (i := x) hm.1 hm.2
  have hp3 := xpI_r hS (i := y) hm.1 hm.2
  refine z_aload_n C 1 0 dX10_isFit_0 rfl rfl ?_
  refine z_callO (owner := RX10) (As := []) (rest := []) C hκ hκl 4 (k17_isWell_17 hX hs hw hT (b) (m) (x) (y) hb ⟨by omega, by omega⟩ r_x r_y) dX10_isFit_1 q1025 q1027 q1026 q1109 q1042 q1043 q111 q1044 ⟨by decide, by decide, rfl⟩ (Nat.le_of_ble_eq_true rfl) (Nat.le_of_ble_eq_true rfl) (Nat.le_of_ble_eq_true rfl) (Nat.le_of_ble_eq_true rfl) (zrec_P hb) rfl rfl (Nat.le_of_ble_eq_true rfl) rfl (fun v9 Q9 h9 => ?_)
  obtain ⟨rfl, rfl⟩ := h9
  refine z_as (st' := [.int (iI (bI (xWe w (m) 17 (x) (y) 0)))]) rfl rfl rfl ?_
  refine z_ifB_eq C 45 7 dX10_isFit_4 (by decide) rfl (fun c4 => ?_) (fun c4 => ?_)
  · skip
    refine z_iconst C 46 dX10_isFit_45 rfl ?_
    refine z_as (st' := [.int (iI (bI (false)))]) rfl rfl rfl ?_
    exact z_iret C dX10_isFit_46 (bI_nar _) (Nat.le_of_ble_eq_true rfl) (Nat.le_of_ble_eq_true rfl) ⟨congrArg (fun b => some (Value.int (iI (bI b)))) (by clear C hκ hκl hS hB hB1 hB2 hB3 hB4 hB5 hB6 hC hw hX hs hT h81 h82 f1a f1b f1c f1d; clear h17 κ; first | (simp_all; done) | (simp_all <;> omega) | grind), rfl⟩
  · skip
    have hf9 := xWe_17 (by assumption)
    have hsu : 4 ≤ suI (xpI w m x) (xpI w m y) ∧ suI (xpI w m x) (xpI w m y) < 8 := by unfold suI; (repeat' split) <;> omega
    refine z_aload_n C 8 0 dX10_isFit_7 rfl rfl ?_
    refine z_getf C hκ (v := .ref (σ 20 (m))) 11 0 zk_X17 hb (by decide) q772 (Or.inl rfl) rfl dX10_isFit_8 rfl ?_
    refine z_getf C hκ (v := va_rf (xo σ 10 (w 17 (m)))) 14 5 zk_X9 (hX.mem (by omega) (by omega)) (by decide) q671 (Or.inl rfl) rfl dX10_isFit_11 rfl ?_
    rcases Int.lt_or_le (w 17 (m)) 0 with n5 | n5
    · skip
      rw [xo_n n5]
      refine z_as (st' := [.null]) (lv' := [(0, .ref (b))]) rfl rfl rfl ?_
      refine z_ifnullN C 41 dX10_isFit_14 (by decide) ?_
      refine z_iconst C 42 dX10_isFit_41 rfl ?_
      refine z_goto C 46 dX10_isFit_42 (by decide) ?_
      refine z_as (st' := [.int (iI (bI (true)))]) rfl rfl rfl ?_
      exact z_iret C dX10_isFit_46 (bI_nar _) (Nat.le_of_ble_eq_true rfl) (Nat.le_of_ble_eq_true rfl) ⟨congrArg (fun b => some (Value.int (iI (bI b)))) (by clear C hκ hκl hS hB hB1 hB2 hB3 hB4 hB5 hB6 hC hw hX hs hT h81 h82 f1a f1b f1c f1d; clear h17 κ; first | (simp_all; done) | (simp_all <;> omega) | grind), rfl⟩
    · skip
      rw [xo_y n5]
      refine z_as (st' := [.ref (σ 10 (w 17 (m)))]) (lv' := [(0, .ref (b))]) rfl rfl rfl ?_
      refine z_ifnull C 17 dX10_isFit_14 rfl ?_
      refine z_aload_n C 18 0 dX10_isFit_17 rfl rfl ?_
      refine z_callO (owner := RX10) (As := []) (rest := []) C hκ hκl 21 (k17_type_17 hX hs hw hT (b) (m) (x) (y) hb ⟨by omega, by omega⟩ r_x r_y ⟨by omega, by omega⟩ ⟨by omega, by omega⟩) dX10_isFit_18 q1110 q1112 q1111 q1138 q1116 q1117 q111 q1118 ⟨by decide, by decide, rfl⟩ (Nat.le_of_ble_eq_true rfl) (Nat.le_of_ble_eq_true rfl) (Nat.le_of_ble_eq_true rfl) (Nat.le_of_ble_eq_true rfl) (zrec_P hb) rfl rfl (Nat.le_of_ble_eq_true rfl) rfl (fun v9 Q9 h9 => ?_)
      obtain ⟨rfl, rfl⟩ := h9
      refine z_as (st' := [.ref (σ 10 (suI (xpI w (m) (x)) (xpI w (m) (y))))]) rfl rfl rfl ?_
      refine z_ifnull C 24 dX10_isFit_21 rfl ?_
      refine z_aload_n C 25 0 dX10_isFit_24 rfl rfl ?_
      refine z_callO (owner := RX10) (As := []) (rest := []) C hκ hκl 28 (k17_type_17 hX hs hw hT (b) (m) (x) (y) hb ⟨by omega, by omega⟩ r_x r_y ⟨by omega, by omega⟩ ⟨by omega, by omega⟩) dX10_isFit_25 q1110 q1112 q1111 q1138 q1116 q1117 q111 q1118 ⟨by decide, by decide, rfl⟩ (Nat.le_of_ble_eq_true rfl) (Nat.le_of_ble_eq_true rfl) (Nat.le_of_ble_eq_true rfl) (Nat.le_of_ble_eq_true rfl) (zrec_P hb) rfl rfl (Nat.le_of_ble_eq_true rfl) rfl (fun v9 Q9 h9 => ?_)
      obtain ⟨rfl, rfl⟩ := h9
      refine z_as (st' := [.ref (σ 10 (suI (xpI w (m) (x)) (xpI w (m) (y))))]) rfl rfl rfl ?_
      refine z_aload_n C 29 0 dX10_isFit_28 rfl rfl ?_
      refine z_getf C hκ (v := .ref (σ 20 (m))) 32 0 zk_X17 hb (by decide) q772 (Or.inl rfl) rfl dX10_isFit_29 rfl ?_
      refine z_getf C hκ (v := va_rf (xo σ 10 (w 17 (m)))) 35 5 zk_X9 (hX.mem (by omega) (by omega)) (by decide) q671 (Or.inl rfl) rfl dX10_isFit_32 rfl ?_
      have y6 : 0 ≤ w 17 (m) := (by omega)
      rw [xo_y y6]
      refine z_as (st' := [.ref (σ 10 (w 17 (m))), .ref (σ 10 (suI (xpI w (m) (x)) (xpI w (m) (y))))]) (lv' := [(0, .ref (b))]) rfl rfl rfl ?_
      obtain ⟨f7a, f7b, f7c, f7d, f7e, f7f, f7g, f7h⟩ := hS.T (show 0 ≤ suI (xpI w (m) (x)) (xpI w (m) (y)) by omega) (by omega)
      obtain ⟨f7i, f7j, f7k, f7l⟩ := hs.ty (show 0 ≤ suI (xpI w (m) (x)) (xpI w (m) (y)) by omega) (by omega)
      obtain ⟨f8a, f8b, f8c, f8d, f8e, f8f, f8g, f8h⟩ := hS.T (show 0 ≤ w 17 (m) by omega) (by omega)
      obtain ⟨f8i, f8j, f8k, f8l⟩ := hs.ty (show 0 ≤ w 17 (m) by omega) (by omega)
      refine xv_is (rest := []) C hκ hκl hX hs hw hT (suI (xpI w (m) (x)) (xpI w (m) (y))) (w 17 (m)) ⟨(by omega), (by omega)⟩ ⟨(by omega), (by omega)⟩ 38 dX10_isFit_35 q1069 (Nat.le_of_ble_eq_true rfl) (Nat.le_of_ble_eq_true rfl) (Nat.le_of_ble_eq_true rfl) (Nat.le_of_ble_eq_true rfl) (Nat.le_of_ble_eq_true rfl) rfl ?_
      refine z_as (st' := [.int (iI (bI (giB w (suI (xpI w (m) (x)) (xpI w (m) (y))) (w 17 (m)))))]) rfl rfl rfl ?_
      refine z_ifB_eq C 45 41 dX10_isFit_38 (by decide) rfl (fun c9 => ?_) (fun c9 => ?_)
      · skip
        refine z_iconst C 46 dX10_isFit_45 rfl ?_
        refine z_as (st' := [.int (iI (bI (false)))]) rfl rfl rfl ?_
        exact z_iret C dX10_isFit_46 (bI_nar _) (Nat.le_of_ble_eq_true rfl) (Nat.le_of_ble_eq_true rfl) ⟨congrArg (fun b => some (Value.int (iI (bI b)))) (by clear C hκ hκl hS hB hB1 hB2 hB3 hB4 hB5 hB6 hC hw hX hs hT h81 h82 f1a f1b f1c f1d f7a f7b f7c f7d f7e f7f f7g f7h f7i f7j f7k f7l f8a f8b f8c f8d f8e f8f f8g f8h f8i f8j f8k f8l; clear h17 κ; first | (simp_all; done) | (simp_all <;> omega) | grind), rfl⟩
      · skip
        refine z_iconst C 42 dX10_isFit_41 rfl ?_
        refine z_goto C 46 dX10_isFit_42 (by decide) ?_
        refine z_as (st' := [.int (iI (bI (true)))]) rfl rfl rfl ?_
        exact z_iret C dX10_isFit_46 (bI_nar _) (Nat.le_of_ble_eq_true rfl) (Nat.le_of_ble_eq_true rfl) ⟨congrArg (fun b => some (Value.int (iI (bI b)))) (by clear C hκ hκl hS hB hB1 hB2 hB3 hB4 hB5 hB6 hC hw hX hs hT h81 h82 f1a f1b f1c f1d f7a f7b f7c f7d f7e f7f f7g f7h f7i f7j f7k f7l f8a f8b f8c f8d f8e f8f f8g f8h f8i f8j f8k f8l; clear h17 κ; first | (simp_all; done) | (simp_all <;> omega) | grind), rfl⟩
set_option maxRecDepth 100000 in
theorem k10_isFit_18 {l : Launch} {θ : zTh} {σ : xA} {w : mW} {M N : zMap} (hX : xM θ σ w (xL w) M) (hs : xS w) (hw : mWF w) (hT : zTb θ) (b : Nat) (m : Int) (f : Int)  (hb : M b = some (.inr (18, [.ref (σ 20 (m)), .ref (σ 0 (0)), va_rf (xo σ 20 (f)), .ref (σ 0 (0)), .ref (σ 0 (0))]))) (hm : 0 ≤ m ∧ m < w 11 0) (hf : -1 ≤ f ∧ f < w 11 0) (h17 : ∀ f : Int, 0 ≤ f → f < w 11 0 → w 16 f = 1 → 0 ≤ w 17 f) : ZM θ l yX10_isFit cX10_isFit 1 (some .boolean) ⟨247, 0, 0, 2530⟩ [.ref (b)] (zP θ M N) (zFn (some (.int (iI (bI (xWe w m 18 0 0 f && (decide (w 17 f = -1) || decide (w 17 m = -1) || giB w (w 17 f) (w 17 m))))))) (zP θ M N)) := by
  refine z_start (own := RX10) (nm := "isFit") pnX10 rfl rfl (Nat.le_of_ble_eq_true rfl) ?_
  intro κ hκ hκl C
  change Z κ (zP θ M N) 0 0 0 [(0, .ref (b))] []
  have hS := hs.S
  have hB := hS.B
  obtain ⟨hB1, hB2, hB3, hB4, hB5, hB6⟩ := hS.B
  have hC := hS.C
  obtain ⟨h81, h82⟩ := hs.r8
  obtain ⟨f1a, f1b, f1c, f1d⟩ := hS.M (show 0 ≤ m by omega) (by omega)
  have k17 : -1 ≤ w 17 m := by omega
  refine z_aload_n C 1 0 dX10_isFit_0 rfl rfl ?_
  refine z_callO (owner := RX10) (As := []) (rest := []) C hκ hκl 4 (k18_isWell_18 hX hs hw hT (b) (m) (f) hb ⟨by omega, by omega⟩ ⟨by omega, by omega⟩) dX10_isFit_1 q1025 q1027 q1026 q1109 q1028 q1029 q112 q1030 ⟨by decide, by decide, rfl⟩ (Nat.le_of_ble_eq_true rfl) (Nat.le_of_ble_eq_true rfl) (Nat.le_of_ble_eq_true rfl) (Nat.le_of_ble_eq_true rfl) (zrec_P hb) rfl rfl (Nat.le_of_ble_eq_true rfl) rfl (fun v9 Q9 h9 => ?_)
  obtain ⟨rfl, rfl⟩ := h9
  refine z_as (st' := [.int (iI (bI (xWe w (m) 18 0 0 (f))))]) rfl rfl rfl ?_
  refine z_ifB_eq C 45 7 dX10_isFit_4 (by decide) rfl (fun c2 => ?_) (fun c2 => ?_)
  · skip
    refine z_iconst C 46 dX10_isFit_45 rfl ?_
    refine z_as (st' := [.int (iI (bI (false)))]) rfl rfl rfl ?_
    exact z_iret C dX10_isFit_46 (bI_nar _) (Nat.le_of_ble_eq_true rfl) (Nat.le_of_ble_eq_true rfl) ⟨congrArg (fun b => some (Value.int (iI (bI b)))) (by clear C hκ hκl hS hB hB1 hB2 hB3 hB4 hB5 hB6 hC hw hX hs hT h81 h82 f1a f1b f1c f1d; clear h17 κ; first | (simp_all; done) | (simp_all <;> omega) | grind), rfl⟩
  · skip
    have hf9 : 0 ≤ f := xWe_18 (by assumption)
    obtain ⟨f3a, f3b, f3c, f3d⟩ := hS.M (show 0 ≤ f by omega) (by omega)
    have k17f : -1 ≤ w 17 f := by omega
    refine z_aload_n C 8 0 dX10_isFit_7 rfl rfl ?_
    refine z_getf C hκ (v := .ref (σ 20 (m))) 11 0 zk_X18 hb (by decide) q772 (Or.inl rfl) rfl dX10_isFit_8 rfl ?_
    refine z_getf C hκ (v := va_rf (xo σ 10 (w 17 (m)))) 14 5 zk_X9 (hX.mem (by omega) (by omega)) (by decide) q671 (Or.inl rfl) rfl dX10_isFit_11 rfl ?_
    rcases Int.lt_or_le (w 17 (m)) 0 with n4 | n4
    · skip
      rw [xo_n n4]
      refine z_as (st' := [.null]) (lv' := [(0, .ref (b))]) rfl rfl rfl ?_
      refine z_ifnullN C 41 dX10_isFit_14 (by decide) ?_
      refine z_iconst C 42 dX10_isFit_41 rfl ?_
      refine z_goto C 46 dX10_isFit_42 (by decide) ?_
      refine z_as (st' := [.int (iI (bI (true)))]) rfl rfl rfl ?_
      exact z_iret C dX10_isFit_46 (bI_nar _) (Nat.le_of_ble_eq_true rfl) (Nat.le_of_ble_eq_true rfl) ⟨congrArg (fun b => some (Value.int (iI (bI b)))) (by clear C hκ hκl hS hB hB1 hB2 hB3 hB4 hB5 hB6 hC hw hX hs hT h81 h82 f1a f1b f1c f1d f3a f3b f3c f3d; clear h17 κ; first | (simp_all; done) | (simp_all <;> omega) | grind), rfl⟩
    · skip
      rw [xo_y n4]
      refine z_as (st' := [.ref (σ 10 (w 17 (m)))]) (lv' := [(0, .ref (b))]) rfl rfl rfl ?_
      refine z_ifnull C 17 dX10_isFit_14 rfl ?_
      refine z_aload_n C 18 0 dX10_isFit_17 rfl rfl ?_
      refine z_callO (owner := RX10) (As := []) (rest := []) C hκ hκl 21 (k16_type_18 hX hs hw hT (b) (m) (f) hb ⟨by omega, by omega⟩ ⟨by omega, by omega⟩ (by omega)) dX10_isFit_18 q1110 q1112 q1111 q1138 q1113 q1114 q110 q1115 ⟨by decide, by decide, rfl⟩ (Nat.le_of_ble_eq_true rfl) (Nat.le_of_ble_eq_true rfl) (Nat.le_of_ble_eq_true rfl) (Nat.le_of_ble_eq_true rfl) (zrec_P hb) rfl rfl (Nat.le_of_ble_eq_true rfl) rfl (fun v9 Q9 h9 => ?_)
      obtain ⟨rfl, rfl⟩ := h9
      refine z_as (st' := [va_rf (xo σ 10 (w 17 (f)))]) rfl rfl rfl ?_
      rcases Int.lt_or_le (w 17 (f)) 0 with n5 | n5
      · skip
        rw [xo_n n5]
        refine z_as (st' := [.null]) (lv' := [(0, .ref (b))]) rfl rfl rfl ?_
        refine z_ifnullN C 41 dX10_isFit_21 (by decide) ?_
        refine z_iconst C 42 dX10_isFit_41 rfl ?_
        refine z_goto C 46 dX10_isFit_42 (by decide) ?_
        refine z_as (st' := [.int (iI (bI (true)))]) rfl rfl rfl ?_
        exact z_iret C dX10_isFit_46 (bI_nar _) (Nat.le_of_ble_eq_true rfl) (Nat.le_of_ble_eq_true rfl) ⟨congrArg (fun b => some (Value.int (iI (bI b)))) (by clear C hκ hκl hS hB hB1 hB2 hB3 hB4 hB5 hB6 hC hw hX hs hT h81 h82 f1a f1b f1c f1d f3a f3b f3c f3d; clear h17 κ; first | (simp_all; done) | (simp_all <;> omega) | grind), rfl⟩
      · skip
        rw [xo_y n5]
        refine z_as (st' := [.ref (σ 10 (w 17 (f)))]) (lv' := [(0, .ref (b))]) rfl rfl rfl ?_
        refine z_ifnull C 24 dX10_isFit_21 rfl ?_
        refine z_aload_n C 25 0 dX10_isFit_24 rfl rfl ?_
        refine z_callO (owner := RX10) (As := []) (rest := []) C hκ hκl 28 (k16_type_18 hX hs hw hT (b) (m) (f) hb ⟨by omega, by omega⟩ ⟨by omega, by omega⟩ (by omega)) dX10_isFit_25 q1110 q1112 q1111 q1138 q1113 q1114 q110 q1115 ⟨by decide, by decide, rfl⟩ (Nat.le_of_ble_eq_true rfl) (Nat.le_of_ble_eq_true rfl) (Nat.le_of_ble_eq_true rfl) (Nat.le_of_ble_eq_true rfl) (zrec_P hb) rfl rfl (Nat.le_of_ble_eq_true rfl) rfl (fun v9 Q9 h9 => ?_)
        obtain ⟨rfl, rfl⟩ := h9
        refine z_as (st' := [va_rf (xo σ 10 (w 17 (f)))]) rfl rfl rfl ?_
        refine z_aload_n C 29 0 dX10_isFit_28 rfl rfl ?_
        refine z_getf C hκ (v := .ref (σ 20 (m))) 32 0 zk_X18 hb (by decide) q772 (Or.inl rfl) rfl dX10_isFit_29 rfl ?_
        refine z_getf C hκ (v := va_rf (xo σ 10 (w 17 (m)))) 35 5 zk_X9 (hX.mem (by omega) (by omega)) (by decide) q671 (Or.inl rfl) rfl dX10_isFit_32 rfl ?_
        have y6 : 0 ≤ w 17 (f) := (by omega)
        rw [xo_y y6]
        refine z_as (st' := [va_rf (xo σ 10 (w 17 (m))), .ref (σ 10 (w 17 (f)))]) (lv' := [(0, .ref (b))]) rfl rfl rfl ?_
        have y7 : 0 ≤ w 17 (m) := (by omega)
        rw [xo_y y7]
        refine z_as (st' := [.ref (σ 10 (w 17 (m))), .ref (σ 10 (w 17 (f)))]) (lv' := [(0, .ref (b))]) rfl rfl rfl ?_
        obtain ⟨f8a, f8b, f8c, f8d, f8e, f8f, f8g, f8h⟩ := hS.T (show 0 ≤ w 17 (f) by omega) (by omega)
        obtain ⟨f8i, f8j, f8k, f8l⟩ := hs.ty (show 0 ≤ w 17 (f) by omega) (by omega)
        obtain ⟨f9a, f9b, f9c, f9d, f9e, f9f, f9g, f9h⟩ := hS.T (show 0 ≤ w 17 (m) by omega) (by omega)
        obtain ⟨f9i, f9j, f9k, f9l⟩ := hs.ty (show 0 ≤ w 17 (m) by omega) (by omega)
        refine xv_is (rest := []) C hκ hκl hX hs hw hT (w 17 (f)) (w 17 (m)) ⟨(by omega), (by omega)⟩ ⟨(by omega), (by omega)⟩ 38 dX10_isFit_35 q1069 (Nat.le_of_ble_eq_true rfl) (Nat.le_of_ble_eq_true rfl) (Nat.le_of_ble_eq_true rfl) (Nat.le_of_ble_eq_true rfl) (Nat.le_of_ble_eq_true rfl) rfl ?_
        refine z_as (st' := [.int (iI (bI (giB w (w 17 (f)) (w 17 (m)))))]) rfl rfl rfl ?_
        refine z_ifB_eq C 45 41 dX10_isFit_38 (by decide) rfl (fun c10 => ?_) (fun c10 => ?_)
        · skip
          refine z_iconst C 46 dX10_isFit_45 rfl ?_
          refine z_as (st' := [.int (iI (bI (false)))]) rfl rfl rfl ?_
          exact z_iret C dX10_isFit_46 (bI_nar _) (Nat.le_of_ble_eq_true rfl) (Nat.le_of_ble_eq_true rfl) ⟨congrArg (fun b => some (Value.int (iI (bI b)))) (by clear C hκ hκl hS hB hB1 hB2 hB3 hB4 hB5 hB6 hC hw hX hs hT h81 h82 f1a f1b f1c f1d f3a f3b f3c f3d f8a f8b f8c f8d f8e f8f f8g f8h f8i f8j f8k f8l f9a f9b f9c f9d f9e f9f f9g f9h f9i f9j f9k f9l; clear h17 κ; first | (simp_all; done) | (simp_all <;> omega) | grind), rfl⟩
        · skip
          refine z_iconst C 42 dX10_isFit_41 rfl ?_
          refine z_goto C 46 dX10_isFit_42 (by decide) ?_
          refine z_as (st' := [.int (iI (bI (true)))]) rfl rfl rfl ?_
          exact z_iret C dX10_isFit_46 (bI_nar _) (Nat.le_of_ble_eq_true rfl) (Nat.le_of_ble_eq_true rfl) ⟨congrArg (fun b => some (Value.int (iI (bI b)))) (by clear C hκ hκl hS hB hB1 hB2 hB3 hB4 hB5 hB6 hC hw hX hs hT h81 h82 f1a f1b f1c f1d f3a f3b f3c f3d f8a f8b f8c f8d f8e f8f f8g f8h f8i f8j f8k f8l f9a f9b f9c f9d f9e f9f f9g f9h f9i f9j f9k f9l; clear h17 κ; first | (simp_all; done) | (simp_all <;> omega) | grind), rfl⟩
set_option maxRecDepth 100000 in
theorem k10_isFit_21 {l : Launch} {θ : zTh} {σ : xA} {w : mW} {M N : zMap} (hX : xM θ σ w (xL w) M) (hs : xS w) (hw : mWF w) (hT : zTb θ) (b : Nat) (m : Int) (x : Int) (y : Int)  (hb : M b = some (.inr (21, [.ref (σ 20 (m)), .ref (σ 0 (0)), .int (iI (x)), .ref (σ 0 (0)), .int (iI (y)), .ref (σ 0 (0))]))) (hm : 0 ≤ m ∧ m < w 11 0) (r_x : inR x) (r_y : inR y) (h17 : ∀ f : Int, 0 ≤ f → f < w 11 0 → w 16 f = 1 → 0 ≤ w 17 f) : ZM θ l yX10_isFit cX10_isFit 1 (some .boolean) ⟨248, 0, 0, 2550⟩ [.ref (b)] (zP θ M N) (zFn (some (.int (iI (bI (xWe w m 21 x y 0 && (decide (w 4 (xpI w m x) = -1) || decide (w 17 m = -1) || giB w (w 4 (xpI w m x)) (w 17 m))))))) (zP θ M N)) := by
  refine z_start (own := RX10) (nm := "isFit") pnX10 rfl rfl (Nat.le_of_ble_eq_true rfl) ?_
  intro κ hκ hκl C
  change Z κ (zP θ M N) 0 0 0 [(0, .ref (b))] []
  have hS := hs.S
  have hB := hS.B
  obtain ⟨hB1, hB2, hB3, hB4, hB5, hB6⟩ := hS.B
  have hC := hS.C
  obtain ⟨h81, h82⟩ := hs.r8
  obtain ⟨f1a, f1b, f1c, f1d⟩ := hS.M (show 0 ≤ m by omega) (by omega)
  have k17 : -1 ≤ w 17 m := by omega
  have hp2 := xpI_r hS (i := x) hm.1 hm.2
  have hi := xpI_i (i := x) hS hm.1 hm.2
  refine z_aload_n C 1 0 dX10_isFit_0 rfl rfl ?_
  refine z_callO (owner := RX10) (As := []) (rest := []) C hκ hκl 4 (k21_isWell_21 hX hs hw hT (b) (m) (x) (y) hb ⟨by omega, by omega⟩ r_x r_y) dX10_isFit_1 q1025 q1027 q1026 q1109 q1076 q1077 q115 q1078 ⟨by decide, by decide, rfl⟩ (Nat.le_of_ble_eq_true rfl) (Nat.le_of_ble_eq_true rfl) (Nat.le_of_ble_eq_true rfl) (Nat.le_of_ble_eq_true rfl) (zrec_P hb) rfl rfl (Nat.le_of_ble_eq_true rfl) rfl (fun v9 Q9 h9 => ?_)
  obtain ⟨rfl, rfl⟩ := h9
  refine z_as (st' := [.int (iI (bI (xWe w (m) 21 (x) (y) 0)))]) rfl rfl rfl ?_
  refine z_ifB_eq C 45 7 dX10_isFit_4 (by decide) rfl (fun c3 => ?_) (fun c3 => ?_)
  · skip
    refine z_iconst C 46 dX10_isFit_45 rfl ?_
    refine z_as (st' := [.int (iI (bI (false)))]) rfl rfl rfl ?_
    exact z_iret C dX10_isFit_46 (bI_nar _) (Nat.le_of_ble_eq_true rfl) (Nat.le_of_ble_eq_true rfl) ⟨congrArg (fun b => some (Value.int (iI (bI b)))) (by clear C hκ hκl hS hB hB1 hB2 hB3 hB4 hB5 hB6 hC hw hX hs hT h81 h82 f1a f1b f1c f1d; clear h17 κ; first | (simp_all; done) | (simp_all <;> omega) | grind), rfl⟩
  · skip
    have hf9 : 0 ≤ xpI w m x := xWe_21 hS hm (by assumption)
    obtain ⟨f4a, f4b, f4c, f4d, f4e, f4f, f4g, f4h⟩ := hS.T (show 0 ≤ xpI w m x by omega) (by omega)
    obtain ⟨f4i, f4j, f4k, f4l⟩ := hs.ty (show 0 ≤ xpI w m x by omega) (by omega)
    have k4 : -1 ≤ w 4 (xpI w m x) := by omega
    refine z_aload_n C 8 0 dX10_isFit_7 rfl rfl ?_
    refine z_getf C hκ (v := .ref (σ 20 (m))) 11 0 zk_X21 hb (by decide) q772 (Or.inl rfl) rfl dX10_isFit_8 rfl ?_
    refine z_getf C hκ (v := va_rf (xo σ 10 (w 17 (m)))) 14 5 zk_X9 (hX.mem (by omega) (by omega)) (by decide) q671 (Or.inl rfl) rfl dX10_isFit_11 rfl ?_
    rcases Int.lt_or_le (w 17 (m)) 0 with n5 | n5
    · skip
      rw [xo_n n5]
      refine z_as (st' := [.null]) (lv' := [(0, .ref (b))]) rfl rfl rfl ?_
      refine z_ifnullN C 41 dX10_isFit_14 (by decide) ?_
      refine z_iconst C 42 dX10_isFit_41 rfl ?_
      refine z_goto C 46 dX10_isFit_42 (by decide) ?_
      refine z_as (st' := [.int (iI (bI (true)))]) rfl rfl rfl ?_
      exact z_iret C dX10_isFit_46 (bI_nar _) (Nat.le_of_ble_eq_true rfl) (Nat.le_of_ble_eq_true rfl) ⟨congrArg (fun b => some (Value.int (iI (bI b)))) (by clear C hκ hκl hS hB hB1 hB2 hB3 hB4 hB5 hB6 hC hw hX hs hT h81 h82 f1a f1b f1c f1d f4a f4b f4c f4d f4e f4f f4g f4h f4i f4j f4k f4l; clear h17 κ; first | (simp_all; done) | (simp_all <;> omega) | grind), rfl⟩
    · skip
      rw [xo_y n5]
      refine z_as (st' := [.ref (σ 10 (w 17 (m)))]) (lv' := [(0, .ref (b))]) rfl rfl rfl ?_
      refine z_ifnull C 17 dX10_isFit_14 rfl ?_
      refine z_aload_n C 18 0 dX10_isFit_17 rfl rfl ?_
      refine z_callO (owner := RX10) (As := []) (rest := []) C hκ hκl 21 (k21_type_21 hX hs hw hT (b) (m) (x) (y) hb ⟨by omega, by omega⟩ r_x r_y (by omega)) dX10_isFit_18 q1110 q1112 q1111 q1138 q1124 q1125 q115 q1126 ⟨by decide, by decide, rfl⟩ (Nat.le_of_ble_eq_true rfl) (Nat.le_of_ble_eq_true rfl) (Nat.le_of_ble_eq_true rfl) (Nat.le_of_ble_eq_true rfl) (zrec_P hb) rfl rfl (Nat.le_of_ble_eq_true rfl) rfl (fun v9 Q9 h9 => ?_)
      obtain ⟨rfl, rfl⟩ := h9
      refine z_as (st' := [va_rf (xo σ 10 (w 4 (xpI w (m) (x))))]) rfl rfl rfl ?_
      rcases Int.lt_or_le (w 4 (xpI w (m) (x))) 0 with n6 | n6
      · skip
        rw [xo_n n6]
        refine z_as (st' := [.null]) (lv' := [(0, .ref (b))]) rfl rfl rfl ?_
        refine z_ifnullN C 41 dX10_isFit_21 (by decide) ?_
        refine z_iconst C 42 dX10_isFit_41 rfl ?_
        refine z_goto C 46 dX10_isFit_42 (by decide) ?_
        refine z_as (st' := [.int (iI (bI (true)))]) rfl rfl rfl ?_
        exact z_iret C dX10_isFit_46 (bI_nar _) (Nat.le_of_ble_eq_true rfl) (Nat.le_of_ble_eq_true rfl) ⟨congrArg (fun b => some (Value.int (iI (bI b)))) (by clear C hκ hκl hS hB hB1 hB2 hB3 hB4 hB5 hB6 hC hw hX hs hT h81 h82 f1a f1b f1c f1d f4a f4b f4c f4d f4e f4f f4g f4h f4i f4j f4k f4l; clear h17 κ; first | (simp_all; done) | (simp_all <;> omega) | grind), rfl⟩
      · skip
        rw [xo_y n6]
        refine z_as (st' := [.ref (σ 10 (w 4 (xpI w (m) (x))))]) (lv' := [(0, .ref (b))]) rfl rfl rfl ?_
        refine z_ifnull C 24 dX10_isFit_21 rfl ?_
        refine z_aload_n C 25 0 dX10_isFit_24 rfl rfl ?_
        refine z_callO (owner := RX10) (As := []) (rest := []) C hκ hκl 28 (k21_type_21 hX hs hw hT (b) (m) (x) (y) hb ⟨by omega, by omega⟩ r_x r_y (by omega)) dX10_isFit_25 q1110 q1112 q1111 q1138 q1124 q1125 q115 q1126 ⟨by decide, by decide, rfl⟩ (Nat.le_of_ble_eq_true rfl) (Nat.le_of_ble_eq_true rfl) (Nat.le_of_ble_eq_true rfl) (Nat.le_of_ble_eq_true rfl) (zrec_P hb) rfl rfl (Nat.le_of_ble_eq_true rfl) rfl (fun v9 Q9 h9 => ?_)
        obtain ⟨rfl, rfl⟩ := h9
        refine z_as (st' := [va_rf (xo σ 10 (w 4 (xpI w (m) (x))))]) rfl rfl rfl ?_
        refine z_aload_n C 29 0 dX10_isFit_28 rfl rfl ?_
        refine z_getf C hκ (v := .ref (σ 20 (m))) 32 0 zk_X21 hb (by decide) q772 (Or.inl rfl) rfl dX10_isFit_29 rfl ?_
        refine z_getf C hκ (v := va_rf (xo σ 10 (w 17 (m)))) 35 5 zk_X9 (hX.mem (by omega) (by omega)) (by decide) q671 (Or.inl rfl) rfl dX10_isFit_32 rfl ?_
        have y7 : 0 ≤ w 4 (xpI w (m) (x)) := (by omega)
        rw [xo_y y7]
        refine z_as (st' := [va_rf (xo σ 10 (w 17 (m))), .ref (σ 10 (w 4 (xpI w (m) (x))))]) (lv' := [(0, .ref (b))]) rfl rfl rfl ?_
        have y8 : 0 ≤ w 17 (m) := (by omega)
        rw [xo_y y8]
        refine z_as (st' := [.ref (σ 10 (w 17 (m))), .ref (σ 10 (w 4 (xpI w (m) (x))))]) (lv' := [(0, .ref (b))]) rfl rfl rfl ?_
        obtain ⟨f9a, f9b, f9c, f9d, f9e, f9f, f9g, f9h⟩ := hS.T (show 0 ≤ w 4 (xpI w (m) (x)) by omega) (by omega)
        obtain ⟨f9i, f9j, f9k, f9l⟩ := hs.ty (show 0 ≤ w 4 (xpI w (m) (x)) by omega) (by omega)
        obtain ⟨f10a, f10b, f10c, f10d, f10e, f10f, f10g, f10h⟩ := hS.T (show 0 ≤ w 17 (m) by omega) (by omega)
        obtain ⟨f10i, f10j, f10k, f10l⟩ := hs.ty (show 0 ≤ w 17 (m) by omega) (by omega)
        refine xv_is (rest := []) C hκ hκl hX hs hw hT (w 4 (xpI w (m) (x))) (w 17 (m)) ⟨(by omega), (by omega)⟩ ⟨(by omega), (by omega)⟩ 38 dX10_isFit_35 q1069 (Nat.le_of_ble_eq_true rfl) (Nat.le_of_ble_eq_true rfl) (Nat.le_of_ble_eq_true rfl) (Nat.le_of_ble_eq_true rfl) (Nat.le_of_ble_eq_true rfl) rfl ?_
        refine z_as (st' := [.int (iI (bI (giB w (w 4 (xpI w (m) (x))) (w 17 (m)))))]) rfl rfl rfl ?_
        refine z_ifB_eq C 45 41 dX10_isFit_38 (by decide) rfl (fun c11 => ?_) (fun c11 => ?_)
        · skip
          refine z_iconst C 46 dX10_isFit_45 rfl ?_
          refine z_as (st' := [.int (iI (bI (false)))]) rfl rfl rfl ?_
          exact z_iret C dX10_isFit_46 (bI_nar _) (Nat.le_of_ble_eq_true rfl) (Nat.le_of_ble_eq_true rfl) ⟨congrArg (fun b => some (Value.int (iI (bI b)))) (by clear C hκ hκl hS hB hB1 hB2 hB3 hB4 hB5 hB6 hC hw hX hs hT h81 h82 f1a f1b f1c f1d f4a f4b f4c f4d f4e f4f f4g f4h f4i f4j f4k f4l f9a f9b f9c f9d f9e f9f f9g f9h f9i f9j f9k f9l f10a f10b f10c f10d f10e f10f f10g f10h f10i f10j f10k f10l; clear h17 κ; first | (simp_all; done) | (simp_all <;> omega) | grind), rfl⟩
        · skip
          refine z_iconst C 42 dX10_isFit_41 rfl ?_
          refine z_goto C 46 dX10_isFit_42 (by decide) ?_
          refine z_as (st' := [.int (iI (bI (true)))]) rfl rfl rfl ?_
          exact z_iret C dX10_isFit_46 (bI_nar _) (Nat.le_of_ble_eq_true rfl) (Nat.le_of_ble_eq_true rfl) ⟨congrArg (fun b => some (Value.int (iI (bI b)))) (by clear C hκ hκl hS hB hB1 hB2 hB3 hB4 hB5 hB6 hC hw hX hs hT h81 h82 f1a f1b f1c f1d f4a f4b f4c f4d f4e f4f f4g f4h f4i f4j f4k f4l f9a f9b f9c f9d f9e f9f f9g f9h f9i f9j f9k f9l f10a f10b f10c f10d f10e f10f f10g f10h f10i f10j f10k f10l; clear h17 κ; first | (simp_all; done) | (simp_all <;> omega) | grind), rfl⟩
