/-! ===== tallies in the class's picture ===== -/
theorem xM.begun {θ : zTh} {σ : xA} {w : mW} {Lf : Int → List Int} {M : zMap} (hX : xM θ σ w Lf M) : M (σ 5 0) = some (zTl θ (w 35 0)) := by
  obtain ⟨e, h1, h2⟩ := hX.2 5 0 (Or.inl ⟨by decide, rfl⟩)
  have h3 : e = zTl θ (w 35 0) := h2
  rw [h1, h3]
theorem xM.ended {θ : zTh} {σ : xA} {w : mW} {Lf : Int → List Int} {M : zMap} (hX : xM θ σ w Lf M) : M (σ 6 0) = some (zTl θ (w 36 0)) := by
  obtain ⟨e, h1, h2⟩ := hX.2 6 0 (Or.inl ⟨by decide, rfl⟩)
  have h3 : e = zTl θ (w 36 0) := h2
  rw [h1, h3]
/-- one more begun -/
theorem xM.s35 {θ : zTh} {σ : xA} {w : mW} {M : zMap} (hX : xM θ σ w (xL w) M) {v : Int} : xM θ σ (mset w 35 0 v) (xL (mset w 35 0 v)) (zup M (σ 5 0) (zTl θ v)) := by
  have hl0 : xLv w (xL w) 5 0 := Or.inl ⟨by decide, rfl⟩
  rw [xL_V (w := w) (w' := mset w 35 0 v) (fun k i h => mset_k (fun e => h (by omega)))]
  refine ⟨fun a j b j' h1 h2 => hX.1 a j b j' h1 h2, fun a j h => ?_⟩
  have hl : xLv w (xL w) a j := h
  by_cases h0 : a = 5 ∧ j = 0
  · obtain ⟨rfl, rfl⟩ := h0
    refine ⟨_, zup_s, ?_⟩
    show zTl θ v = .inl (θ.1.1 1, 1, .inl (fun _ => iI (mset w 35 0 v 35 0)))
    rw [mset_s]
  · obtain ⟨e, g1, g2⟩ := hX.2 a j hl
    refine ⟨e, (zup_n (fun e9 => h0 (hX.1 a j 5 0 hl hl0 e9))).trans g1, ?_⟩
    by_cases h32 : a = 5
    · subst h32
      exact absurd ⟨rfl, by unfold xLv at hl; omega⟩ h0
    · rcases xLv_k hl with rfl | rfl | rfl | rfl | rfl | rfl | rfl | rfl | rfl | rfl | rfl | rfl | rfl | rfl | rfl | rfl | rfl | rfl | rfl | rfl <;> first | exact g2 | (exfalso; omega)
/-- one more ended -/
theorem xM.s36 {θ : zTh} {σ : xA} {w : mW} {M : zMap} (hX : xM θ σ w (xL w) M) {v : Int} : xM θ σ (mset w 36 0 v) (xL (mset w 36 0 v)) (zup M (σ 6 0) (zTl θ v)) := by
  have hl0 : xLv w (xL w) 6 0 := Or.inl ⟨by decide, rfl⟩
  rw [xL_V (w := w) (w' := mset w 36 0 v) (fun k i h => mset_k (fun e => h (by omega)))]
  refine ⟨fun a j b j' h1 h2 => hX.1 a j b j' h1 h2, fun a j h => ?_⟩
  have hl : xLv w (xL w) a j := h
  by_cases h0 : a = 6 ∧ j = 0
  · obtain ⟨rfl, rfl⟩ := h0
    refine ⟨_, zup_s, ?_⟩
    show zTl θ v = .inl (θ.1.1 1, 1, .inl (fun _ => iI (mset w 36 0 v 36 0)))
    rw [mset_s]
  · obtain ⟨e, g1, g2⟩ := hX.2 a j hl
    refine ⟨e, (zup_n (fun e9 => h0 (hX.1 a j 6 0 hl hl0 e9))).trans g1, ?_⟩
    by_cases h32 : a = 6
    · subst h32
      exact absurd ⟨rfl, by unfold xLv at hl; omega⟩ h0
    · rcases xLv_k hl with rfl | rfl | rfl | rfl | rfl | rfl | rfl | rfl | rfl | rfl | rfl | rfl | rfl | rfl | rfl | rfl | rfl | rfl | rfl | rfl <;> first | exact g2 | (exfalso; omega)

set_option maxRecDepth 100000 in
theorem k0_count {l : Launch} {θ : zTh} {σ : xA} {w : mW} {Lf : Int → List Int} {M N : zMap} (hX : xM θ σ w (Lf) M) (hs : xS w) (hw : mWF w) (hT : zTb θ) (k : Int) (r_k : inR k)  : ZM θ l yX0_count cX0_count 2 (some .int) ⟨2, 0, 0, 40⟩ [.ref (σ 0 (0)), .int (iI (k))] (zP θ M N) (zFn (some (.int (iI (cnI w k)))) (zP θ M N)) := by
  refine z_start (own := RX0) (nm := "count") pnX0 rfl rfl (Nat.le_of_ble_eq_true rfl) ?_
  intro κ hκ hκl C
  change Z κ (zP θ M N) 0 0 0 [(0, .ref (σ 0 (0))), (1, .int (iI (k)))] []
  have hS := hs.S
  have hB := hS.B
  obtain ⟨hB1, hB2, hB3, hB4, hB5, hB6⟩ := hS.B
  have hC := hS.C
  obtain ⟨h81, h82⟩ := hs.r8
  refine z_iload_n C 1 1 dX0_count_0 rfl rfl ?_
  have c1r : inR (k) := r_k
  rcases (show k = 0 ∨ k = 1 ∨ k = 2 ∨ k = 3 ∨ k = 4 ∨ k = 5 ∨ (k < 0 ∨ 5 < k) by omega) with c1 | c1 | c1 | c1 | c1 | c1 | c1
  · skip
    refine z_tsIn C (k) 40 (off := 39) dX0_count_1 c1r (by omega) (by omega) (by rw [c1]; rfl) (by decide) ?_
    refine z_aload_n C 41 0 dX0_count_40 rfl rfl ?_
    refine z_getf C hκ (v := .int (iI (w 0 0))) 44 1 zk_X0 hX.o (by decide) q328 (Or.inl rfl) rfl dX0_count_41 rfl ?_
    exact z_iret C dX0_count_44 rfl (Nat.le_of_ble_eq_true rfl) (Nat.le_of_ble_eq_true rfl) ⟨congrArg (fun z => some (Value.int (iI z))) (by clear C hκ hκl hS hB hB1 hB2 hB3 hB4 hB5 hB6 hC hw hX hs hT h81 h82; unfold cnI; first | rw [if_pos (by omega)] | rw [if_neg (by omega), if_pos (by omega)] | rw [if_neg (by omega), if_neg (by omega), if_pos (by omega)] | rw [if_neg (by omega), if_neg (by omega), if_neg (by omega), if_pos (by omega)] | rw [if_neg (by omega), if_neg (by omega), if_neg (by omega), if_neg (by omega), if_pos (by omega)] | rw [if_neg (by omega), if_neg (by omega), if_neg (by omega), if_neg (by omega), if_neg (by omega), if_pos (by omega)] | rw [if_neg (by omega), if_neg (by omega), if_neg (by omega), if_neg (by omega), if_neg (by omega), if_neg (by omega)]), rfl⟩
  · skip
    refine z_tsIn C (k) 45 (off := 44) dX0_count_1 c1r (by omega) (by omega) (by rw [c1]; rfl) (by decide) ?_
    refine z_aload_n C 46 0 dX0_count_45 rfl rfl ?_
    refine z_getf C hκ (v := .int (iI (w 11 0))) 49 3 zk_X0 hX.o (by decide) q330 (Or.inl rfl) rfl dX0_count_46 rfl ?_
    exact z_iret C dX0_count_49 rfl (Nat.le_of_ble_eq_true rfl) (Nat.le_of_ble_eq_true rfl) ⟨congrArg (fun z => some (Value.int (iI z))) (by clear C hκ hκl hS hB hB1 hB2 hB3 hB4 hB5 hB6 hC hw hX hs hT h81 h82; unfold cnI; first | rw [if_pos (by omega)] | rw [if_neg (by omega), if_pos (by omega)] | rw [if_neg (by omega), if_neg (by omega), if_pos (by omega)] | rw [if_neg (by omega), if_neg (by omega), if_neg (by omega), if_pos (by omega)] | rw [if_neg (by omega), if_neg (by omega), if_neg (by omega), if_neg (by omega), if_pos (by omega)] | rw [if_neg (by omega), if_neg (by omega), if_neg (by omega), if_neg (by omega), if_neg (by omega), if_pos (by omega)] | rw [if_neg (by omega), if_neg (by omega), if_neg (by omega), if_neg (by omega), if_neg (by omega), if_neg (by omega)]), rfl⟩
  · skip
    refine z_tsIn C (k) 50 (off := 49) dX0_count_1 c1r (by omega) (by omega) (by rw [c1]; rfl) (by decide) ?_
    refine z_aload_n C 51 0 dX0_count_50 rfl rfl ?_
    refine z_getf C hκ (v := .int (iI (w 27 0))) 54 6 zk_X0 hX.o (by decide) q333 (Or.inl rfl) rfl dX0_count_51 rfl ?_
    exact z_iret C dX0_count_54 rfl (Nat.le_of_ble_eq_true rfl) (Nat.le_of_ble_eq_true rfl) ⟨congrArg (fun z => some (Value.int (iI z))) (by clear C hκ hκl hS hB hB1 hB2 hB3 hB4 hB5 hB6 hC hw hX hs hT h81 h82; unfold cnI; first | rw [if_pos (by omega)] | rw [if_neg (by omega), if_pos (by omega)] | rw [if_neg (by omega), if_neg (by omega), if_pos (by omega)] | rw [if_neg (by omega), if_neg (by omega), if_neg (by omega), if_pos (by omega)] | rw [if_neg (by omega), if_neg (by omega), if_neg (by omega), if_neg (by omega), if_pos (by omega)] | rw [if_neg (by omega), if_neg (by omega), if_neg (by omega), if_neg (by omega), if_neg (by omega), if_pos (by omega)] | rw [if_neg (by omega), if_neg (by omega), if_neg (by omega), if_neg (by omega), if_neg (by omega), if_neg (by omega)]), rfl⟩
  · skip
    refine z_tsIn C (k) 55 (off := 54) dX0_count_1 c1r (by omega) (by omega) (by rw [c1]; rfl) (by decide) ?_
    refine z_aload_n C 56 0 dX0_count_55 rfl rfl ?_
    refine z_getf C hκ (v := .ref (σ 5 (0))) 59 9 zk_X0 hX.o (by decide) q336 (Or.inl rfl) rfl dX0_count_56 rfl ?_
    refine z_told (rest := []) C hκ hκl 62 hX.begun dX0_count_59 q1968 (Nat.le_of_ble_eq_true rfl) (Nat.le_of_ble_eq_true rfl) (Nat.le_of_ble_eq_true rfl) (Nat.le_of_ble_eq_true rfl) (Nat.le_of_ble_eq_true rfl) rfl ?_
    refine z_as (st' := [.int (iI (w 35 0))]) rfl rfl rfl ?_
    exact z_iret C dX0_count_62 rfl (Nat.le_of_ble_eq_true rfl) (Nat.le_of_ble_eq_true rfl) ⟨congrArg (fun z => some (Value.int (iI z))) (by clear C hκ hκl hS hB hB1 hB2 hB3 hB4 hB5 hB6 hC hw hX hs hT h81 h82; unfold cnI; first | rw [if_pos (by omega)] | rw [if_neg (by omega), if_pos (by omega)] | rw [if_neg (by omega), if_neg (by omega), if_pos (by omega)] | rw [if_neg (by omega), if_neg (by omega), if_neg (by omega), if_pos (by omega)] | rw [if_neg (by omega), if_neg (by omega), if_neg (by omega), if_neg (by omega), if_pos (by omega)] | rw [if_neg (by omega), if_neg (by omega), if_neg (by omega), if_neg (by omega), if_neg (by omega), if_pos (by omega)] | rw [if_neg (by omega), if_neg (by omega), if_neg (by omega), if_neg (by omega), if_neg (by omega), if_neg (by omega)]), rfl⟩
  · skip
    refine z_tsIn C (k) 63 (off := 62) dX0_count_1 c1r (by omega) (by omega) (by rw [c1]; rfl) (by decide) ?_
    refine z_aload_n C 64 0 dX0_count_63 rfl rfl ?_
    refine z_getf C hκ (v := .ref (σ 6 (0))) 67 10 zk_X0 hX.o (by decide) q337 (Or.inl rfl) rfl dX0_count_64 rfl ?_
    refine z_told (rest := []) C hκ hκl 70 hX.ended dX0_count_67 q1968 (Nat.le_of_ble_eq_true rfl) (Nat.le_of_ble_eq_true rfl) (Nat.le_of_ble_eq_true rfl) (Nat.le_of_ble_eq_true rfl) (Nat.le_of_ble_eq_true rfl) rfl ?_
    refine z_as (st' := [.int (iI (w 36 0))]) rfl rfl rfl ?_
    exact z_iret C dX0_count_70 rfl (Nat.le_of_ble_eq_true rfl) (Nat.le_of_ble_eq_true rfl) ⟨congrArg (fun z => some (Value.int (iI z))) (by clear C hκ hκl hS hB hB1 hB2 hB3 hB4 hB5 hB6 hC hw hX hs hT h81 h82; unfold cnI; first | rw [if_pos (by omega)] | rw [if_neg (by omega), if_pos (by omega)] | rw [if_neg (by omega), if_neg (by omega), if_pos (by omega)] | rw [if_neg (by omega), if_neg (by omega), if_neg (by omega), if_pos (by omega)] | rw [if_neg (by omega), if_neg (by omega), if_neg (by omega), if_neg (by omega), if_pos (by omega)] | rw [if_neg (by omega), if_neg (by omega), if_neg (by omega), if_neg (by omega), if_neg (by omega), if_pos (by omega)] | rw [if_neg (by omega), if_neg (by omega), if_neg (by omega), if_neg (by omega), if_neg (by omega), if_neg (by omega)]), rfl⟩
  · skip
    refine z_tsIn C (k) 71 (off := 70) dX0_count_1 c1r (by omega) (by omega) (by rw [c1]; rfl) (by decide) ?_
    refine z_aload_n C 72 0 dX0_count_71 rfl rfl ?_
    refine z_getf C hκ (v := .int (iI (w 12 0))) 75 4 zk_X0 hX.o (by decide) q331 (Or.inl rfl) rfl dX0_count_72 rfl ?_
    exact z_iret C dX0_count_75 rfl (Nat.le_of_ble_eq_true rfl) (Nat.le_of_ble_eq_true rfl) ⟨congrArg (fun z => some (Value.int (iI z))) (by clear C hκ hκl hS hB hB1 hB2 hB3 hB4 hB5 hB6 hC hw hX hs hT h81 h82; unfold cnI; first | rw [if_pos (by omega)] | rw [if_neg (by omega), if_pos (by omega)] | rw [if_neg (by omega), if_neg (by omega), if_pos (by omega)] | rw [if_neg (by omega), if_neg (by omega), if_neg (by omega), if_pos (by omega)] | rw [if_neg (by omega), if_neg (by omega), if_neg (by omega), if_neg (by omega), if_pos (by omega)] | rw [if_neg (by omega), if_neg (by omega), if_neg (by omega), if_neg (by omega), if_neg (by omega), if_pos (by omega)] | rw [if_neg (by omega), if_neg (by omega), if_neg (by omega), if_neg (by omega), if_neg (by omega), if_neg (by omega)]), rfl⟩
  · skip
    refine z_tsOut C 76 dX0_count_1 c1r c1 (by decide) ?_
    refine z_iconst C 77 dX0_count_76 rfl ?_
    exact z_iret C dX0_count_77 rfl (Nat.le_of_ble_eq_true rfl) (Nat.le_of_ble_eq_true rfl) ⟨congrArg (fun z => some (Value.int (iI z))) (by clear C hκ hκl hS hB hB1 hB2 hB3 hB4 hB5 hB6 hC hw hX hs hT h81 h82; unfold cnI; first | rw [if_pos (by omega)] | rw [if_neg (by omega), if_pos (by omega)] | rw [if_neg (by omega), if_neg (by omega), if_pos (by omega)] | rw [if_neg (by omega), if_neg (by omega), if_neg (by omega), if_pos (by omega)] | rw [if_neg (by omega), if_neg (by omega), if_neg (by omega), if_neg (by omega), if_pos (by omega)] | rw [if_neg (by omega), if_neg (by omega), if_neg (by omega), if_neg (by omega), if_neg (by omega), if_pos (by omega)] | rw [if_neg (by omega), if_neg (by omega), if_neg (by omega), if_neg (by omega), if_neg (by omega), if_neg (by omega)]), rfl⟩
