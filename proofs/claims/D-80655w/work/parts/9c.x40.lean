/-! ===== goesInto ===== -/
def goG (w : mW) (k z t : Int) : Bool := if k = 8 then decide (8 ≤ t) && (decide (z < 0) || giB w (w 28 z) t) else giB w k t

set_option maxRecDepth 100000 in
theorem k0_goesInto {l : Launch} {θ : zTh} {σ : xA} {w : mW} {M N : zMap} (hX : xM θ σ w (xL w) M) (hs : xS w) (hw : mWF w) (hT : zTb θ) (c : Nat) (k0 : Int) (b0 : Int) (z : Int) (ty : Int)  (hk0 : 0 ≤ k0 ∧ k0 ≤ 8) (hz : -1 ≤ z ∧ z < w 27 0) (hty : 0 ≤ ty ∧ ty < w 0 0) (hC9 : M c = some (.inr (6, [.int (iI k0), .long (lI b0), va_rf (xo σ 30 z)]))) : ZM θ l yX0_goesInto cX0_goesInto 3 (some .boolean) ⟨247, 0, 0, 2530⟩ [.ref (σ 0 (0)), .ref (c), .ref (σ 10 (ty))] (zP θ M N) (zFn (some (.int (iI (bI (goG w k0 z ty))))) (zP θ M N)) := by
  refine z_start (own := RX0) (nm := "goesInto") pnX0 rfl rfl (Nat.le_of_ble_eq_true rfl) ?_
  intro κ hκ hκl C
  change Z κ (zP θ M N) 0 0 0 [(0, .ref (σ 0 (0))), (1, .ref (c)), (2, .ref (σ 10 (ty)))] []
  have hS := hs.S
  have hB := hS.B
  obtain ⟨hB1, hB2, hB3, hB4, hB5, hB6⟩ := hS.B
  have hC := hS.C
  obtain ⟨h81, h82⟩ := hs.r8
  refine z_aload_n C 1 1 dX0_goesInto_0 rfl rfl ?_
  refine z_getf C hκ (v := .int (iI (k0))) 4 0 zk_X6 hC9 (by decide) q247 (Or.inl rfl) rfl dX0_goesInto_1 rfl ?_
  refine z_bipush C 6 dX0_goesInto_4 (by decide) rfl ?_
  refine z_icmp_eq C 23 9 dX0_goesInto_6 (by decide) ⟨by omega, by omega⟩ ⟨by decide, by decide⟩ rfl (fun c1 => ?_) (fun c1 => ?_)
  · skip
    refine z_aload_n C 24 2 dX0_goesInto_23 rfl rfl ?_
    obtain ⟨f2a, f2b, f2c, f2d, f2e, f2f, f2g, f2h⟩ := hS.T (show 0 ≤ ty by omega) (by omega)
    obtain ⟨f2i, f2j, f2k, f2l⟩ := hs.ty (show 0 ≤ ty by omega) (by omega)
    refine xv_isReference (rest := []) C hκ hκl hX hs hw hT (ty)   ⟨(by omega), (by omega)⟩  27 dX0_goesInto_24 q542 (Nat.le_of_ble_eq_true rfl) (Nat.le_of_ble_eq_true rfl) (Nat.le_of_ble_eq_true rfl) (Nat.le_of_ble_eq_true rfl) (Nat.le_of_ble_eq_true rfl) rfl ?_
    refine z_as (st' := [.int (iI (bI (rfB w (ty))))]) rfl rfl rfl ?_
    refine z_ifB_eq C 55 30 dX0_goesInto_27 (by decide) rfl (fun c3 => ?_) (fun c3 => ?_)
    · skip
      have c3b : ¬ (8 ≤ (ty) ∧ (ty) < w 0 0) := of_decide_eq_false c3
      refine z_iconst C 56 dX0_goesInto_55 rfl ?_
      refine z_as (st' := [.int (iI (bI (false)))]) rfl rfl rfl ?_
      exact z_iret C dX0_goesInto_56 (bI_nar _) (Nat.le_of_ble_eq_true rfl) (Nat.le_of_ble_eq_true rfl) ⟨congrArg (fun b => some (Value.int (iI (bI b)))) (by clear C hκ hκl hS hB hB1 hB2 hB3 hB4 hB5 hB6 hC hw hX hs hT h81 h82 f2a f2b f2c f2d f2e f2f f2g f2h f2i f2j f2k f2l; unfold goG; first | (rw [if_pos (by omega)]; simp_all [rfB]; done) | (rw [if_neg (by omega)]; done) | (rw [if_pos (by omega)]; simp_all [rfB]; omega)), rfl⟩
    · skip
      have c3b : (8 ≤ (ty) ∧ (ty) < w 0 0) := of_decide_eq_true c3
      refine z_aload_n C 31 1 dX0_goesInto_30 rfl rfl ?_
      refine z_getf C hκ (v := va_rf (xo σ 30 (z))) 34 2 zk_X6 hC9 (by decide) q254 (Or.inl rfl) rfl dX0_goesInto_31 rfl ?_
      rcases Int.lt_or_le (z) 0 with n4 | n4
      · skip
        rw [xo_n n4]
        refine z_as (st' := [.null]) (lv' := [(0, .ref (σ 0 (0))), (1, .ref (c)), (2, .ref (σ 10 (ty)))]) rfl rfl rfl ?_
        refine z_ifnullN C 51 dX0_goesInto_34 (by decide) ?_
        refine z_iconst C 52 dX0_goesInto_51 rfl ?_
        refine z_goto C 56 dX0_goesInto_52 (by decide) ?_
        refine z_as (st' := [.int (iI (bI (true)))]) rfl rfl rfl ?_
        exact z_iret C dX0_goesInto_56 (bI_nar _) (Nat.le_of_ble_eq_true rfl) (Nat.le_of_ble_eq_true rfl) ⟨congrArg (fun b => some (Value.int (iI (bI b)))) (by clear C hκ hκl hS hB hB1 hB2 hB3 hB4 hB5 hB6 hC hw hX hs hT h81 h82 f2a f2b f2c f2d f2e f2f f2g f2h f2i f2j f2k f2l; unfold goG; first | (rw [if_pos (by omega)]; simp_all [rfB]; done) | (rw [if_neg (by omega)]; done) | (rw [if_pos (by omega)]; simp_all [rfB]; omega)), rfl⟩
      · skip
        rw [xo_y n4]
        refine z_as (st' := [.ref (σ 30 (z))]) (lv' := [(0, .ref (σ 0 (0))), (1, .ref (c)), (2, .ref (σ 10 (ty)))]) rfl rfl rfl ?_
        refine z_ifnull C 37 dX0_goesInto_34 rfl ?_
        refine z_aload_n C 38 1 dX0_goesInto_37 rfl rfl ?_
        refine z_getf C hκ (v := va_rf (xo σ 30 (z))) 41 2 zk_X6 hC9 (by decide) q254 (Or.inl rfl) rfl dX0_goesInto_38 rfl ?_
        have y5 : 0 ≤ z := (by omega)
        rw [xo_y y5]
        refine z_as (st' := [.ref (σ 30 (z))]) (lv' := [(0, .ref (σ 0 (0))), (1, .ref (c)), (2, .ref (σ 10 (ty)))]) rfl rfl rfl ?_
        obtain ⟨f6a, f6b, f6c⟩ := hS.X (show 0 ≤ z by omega) (by omega)
        refine x_pget (v := .ref (σ 10 (w 28 (z)))) C hκ 44 1 hX (by omega) (by omega) (by decide) rfl q1274 (Or.inl rfl) rfl dX0_goesInto_41 rfl ?_
        refine z_aload_n C 45 2 dX0_goesInto_44 rfl rfl ?_
        obtain ⟨f7a, f7b, f7c, f7d, f7e, f7f, f7g, f7h⟩ := hS.T (show 0 ≤ w 28 (z) by omega) (by omega)
        obtain ⟨f7i, f7j, f7k, f7l⟩ := hs.ty (show 0 ≤ w 28 (z) by omega) (by omega)
        refine xv_is (rest := []) C hκ hκl hX hs hw hT (w 28 (z)) (ty) ⟨(by omega), (by omega)⟩ ⟨(by omega), (by omega)⟩ 48 dX0_goesInto_45 q557 (Nat.le_of_ble_eq_true rfl) (Nat.le_of_ble_eq_true rfl) (Nat.le_of_ble_eq_true rfl) (Nat.le_of_ble_eq_true rfl) (Nat.le_of_ble_eq_true rfl) rfl ?_
        refine z_as (st' := [.int (iI (bI (giB w (w 28 (z)) (ty))))]) rfl rfl rfl ?_
        refine z_ifB_eq C 55 51 dX0_goesInto_48 (by decide) rfl (fun c8 => ?_) (fun c8 => ?_)
        · skip
          refine z_iconst C 56 dX0_goesInto_55 rfl ?_
          refine z_as (st' := [.int (iI (bI (false)))]) rfl rfl rfl ?_
          exact z_iret C dX0_goesInto_56 (bI_nar _) (Nat.le_of_ble_eq_true rfl) (Nat.le_of_ble_eq_true rfl) ⟨congrArg (fun b => some (Value.int (iI (bI b)))) (by clear C hκ hκl hS hB hB1 hB2 hB3 hB4 hB5 hB6 hC hw hX hs hT h81 h82 f2a f2b f2c f2d f2e f2f f2g f2h f2i f2j f2k f2l f6a f6b f6c f7a f7b f7c f7d f7e f7f f7g f7h f7i f7j f7k f7l; unfold goG; first | (rw [if_pos (by omega)]; simp_all [rfB]; done) | (rw [if_neg (by omega)]; done) | (rw [if_pos (by omega)]; simp_all [rfB]; omega)), rfl⟩
        · skip
          refine z_iconst C 52 dX0_goesInto_51 rfl ?_
          refine z_goto C 56 dX0_goesInto_52 (by decide) ?_
          refine z_as (st' := [.int (iI (bI (true)))]) rfl rfl rfl ?_
          exact z_iret C dX0_goesInto_56 (bI_nar _) (Nat.le_of_ble_eq_true rfl) (Nat.le_of_ble_eq_true rfl) ⟨congrArg (fun b => some (Value.int (iI (bI b)))) (by clear C hκ hκl hS hB hB1 hB2 hB3 hB4 hB5 hB6 hC hw hX hs hT h81 h82 f2a f2b f2c f2d f2e f2f f2g f2h f2i f2j f2k f2l f6a f6b f6c f7a f7b f7c f7d f7e f7f f7g f7h f7i f7j f7k f7l; unfold goG; first | (rw [if_pos (by omega)]; simp_all [rfB]; done) | (rw [if_neg (by omega)]; done) | (rw [if_pos (by omega)]; simp_all [rfB]; omega)), rfl⟩
  · skip
    refine z_aload_n C 10 0 dX0_goesInto_9 rfl rfl ?_
    refine z_getf C hκ (v := .ref (σ 1 (0))) 13 0 zk_X0 hX.o (by decide) q325 (Or.inl rfl) rfl dX0_goesInto_10 rfl ?_
    refine z_aload_n C 14 1 dX0_goesInto_13 rfl rfl ?_
    refine z_getf C hκ (v := .int (iI (k0))) 17 0 zk_X6 hC9 (by decide) q247 (Or.inl rfl) rfl dX0_goesInto_14 rfl ?_
    refine x_aT C hκ 18 hX hs (by omega) (by omega) dX0_goesInto_17 rfl ?_
    obtain ⟨f9a, f9b, f9c, f9d, f9e, f9f, f9g, f9h⟩ := hS.T (show 0 ≤ k0 by omega) (by omega)
    obtain ⟨f9i, f9j, f9k, f9l⟩ := hs.ty (show 0 ≤ k0 by omega) (by omega)
    refine z_aload_n C 19 2 dX0_goesInto_18 rfl rfl ?_
    obtain ⟨f10a, f10b, f10c, f10d, f10e, f10f, f10g, f10h⟩ := hS.T (show 0 ≤ ty by omega) (by omega)
    obtain ⟨f10i, f10j, f10k, f10l⟩ := hs.ty (show 0 ≤ ty by omega) (by omega)
    refine xv_is (rest := []) C hκ hκl hX hs hw hT (k0) (ty) ⟨(by omega), (by omega)⟩ ⟨(by omega), (by omega)⟩ 22 dX0_goesInto_19 q557 (Nat.le_of_ble_eq_true rfl) (Nat.le_of_ble_eq_true rfl) (Nat.le_of_ble_eq_true rfl) (Nat.le_of_ble_eq_true rfl) (Nat.le_of_ble_eq_true rfl) rfl ?_
    refine z_as (st' := [.int (iI (bI (giB w (k0) (ty))))]) rfl rfl rfl ?_
    exact z_iret C dX0_goesInto_22 (bI_nar _) (Nat.le_of_ble_eq_true rfl) (Nat.le_of_ble_eq_true rfl) ⟨congrArg (fun b => some (Value.int (iI (bI b)))) (by clear C hκ hκl hS hB hB1 hB2 hB3 hB4 hB5 hB6 hC hw hX hs hT h81 h82 f9a f9b f9c f9d f9e f9f f9g f9h f9i f9j f9k f9l f10a f10b f10c f10d f10e f10f f10g f10h f10i f10j f10k f10l; unfold goG; first | (rw [if_pos (by omega)]; simp_all [rfB]; done) | (rw [if_neg (by omega)]; done) | (rw [if_pos (by omega)]; simp_all [rfB]; omega)), rfl⟩
