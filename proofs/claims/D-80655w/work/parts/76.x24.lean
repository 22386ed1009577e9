theorem xRow_z {θ : zTh} {σ : xA} {w : mW} {t : Int} {len : Nat} {f : Nat → Int32} (h0 : 0 ≤ t) (h4 : t ≤ 4) (hf : ∀ j, f j = 0) {v : Nat → Int} (hv : ∀ j, v j = 0) : xRow θ σ w t len v (.inl (θ.2.1 t.toNat, len, .inl f)) := Or.inl ⟨h0, h4, f, rfl, fun j _ => by rw [hf, hv]; rfl⟩
theorem xRow_o {θ : zTh} {σ : xA} {w : mW} {t : Int} {len : Nat} (h : 8 ≤ t) {v : Nat → Int} (hv : ∀ j, v j = -1) : xRow θ σ w t len v (.inl (xcA θ w t, len, xQ (fun _ => none))) := Or.inr (Or.inr (Or.inr (Or.inr ⟨h, _, rfl, fun j _ => by rw [hv, xo_n (by decide)]⟩)))
/-- a new row of n items of a type -/
abbrev xNr (θ : zTh) (σ : xA) (w : mW) (M N : zMap) (t : Int) (len : Nat) : Option Value → (Heap → Prop) → Prop := fun v9 Q9 => ∃ (a : Nat) (e : va_E), v9 = some (.ref a) ∧ Q9 = zP θ (zup M a e) N ∧ M a = none ∧ xRow θ σ w t len (fun _ => noneI t) e
theorem noneI_0 {t : Int} (h : t < 8) : noneI t = 0 := by unfold noneI; rw [if_neg (by omega)]
theorem noneI_8 {t : Int} (h : 8 ≤ t) : noneI t = -1 := by unfold noneI; rw [if_pos h]
theorem U32_0 : (0 : UInt32) = U32 0 := by decide
theorem U64_0 : (0 : UInt64) = U64 0 := by decide

set_option maxRecDepth 100000 in
theorem k3_row {l : Launch} {θ : zTh} {σ : xA} {w : mW} {Lf : Int → List Int} {M N : zMap} (hX : xM θ σ w (Lf) M) (hs : xS w) (hw : mWF w) (hT : zTb θ) (t : Int) (n : Int) (r_n : inR n) (ht : 0 ≤ t ∧ t < w 0 0) (hn : 0 ≤ n ∧ n ≤ 20) (hc : t < 8 ∧ w 1 t = 0 ∧ xci w t = 3) : ZM θ l yX3_row cX3_row 2 (some (.object "java/lang/Object")) ⟨1, 1, 20, 20⟩ [.ref (σ 10 (t)), .int (iI (n))] (zP θ M N) (xNr θ σ w M N t (n).toNat) := by
  refine z_start (own := RX3) (nm := "row") pnX3 rfl rfl (Nat.le_of_ble_eq_true rfl) ?_
  intro κ hκ hκl C
  change Z κ (zP θ M N) 0 0 0 [(0, .ref (σ 10 (t))), (1, .int (iI (n)))] []
  have hS := hs.S
  have hB := hS.B
  obtain ⟨hB1, hB2, hB3, hB4, hB5, hB6⟩ := hS.B
  have hC := hS.C
  obtain ⟨h81, h82⟩ := hs.r8
  refine z_aload_n C 1 0 dX3_row_0 rfl rfl ?_
  refine z_callU (owner := RX2) (As := []) (rest := []) C hκ hκl 4 (k2_number hX hs hw hT (t) ⟨by omega, by omega⟩) dX3_row_1 q569 q570 q572 q397 q92 q403 rfl ⟨by decide, by decide, rfl⟩ (Nat.le_of_ble_eq_true rfl) (Nat.le_of_ble_eq_true rfl) (Nat.le_of_ble_eq_true rfl) (Nat.le_of_ble_eq_true rfl) (zrec_P (xM.ty3 hX (by omega) (by omega) hc.2.2)) rfl rfl (Nat.le_of_ble_eq_true rfl) rfl (fun v9 Q9 h9 => ?_)
  obtain ⟨rfl, rfl⟩ := h9
  refine z_as (st' := [.int (iI ((t)))]) rfl rfl rfl ?_
  have c1r : inR ((t)) := ⟨by omega, by omega⟩
  rcases (show (t) = 0 ∨ (t) = 1 ∨ (t) = 2 ∨ (t) = 3 ∨ (t) = 4 ∨ (t) = 5 ∨ (t) = 6 ∨ ((t) < 0 ∨ 6 < (t)) by omega) with c1 | c1 | c1 | c1 | c1 | c1 | c1 | c1
  · skip
    refine z_tsIn C ((t)) 48 (off := 44) dX3_row_4 c1r (by omega) (by omega) (by rw [c1]; rfl) (by decide) ?_
    refine z_iload_n C 49 1 dX3_row_48 rfl rfl ?_
    refine z_newa_z (f := (fun _ => (0 : Int32))) C hκ 51 (n).toNat (by omega) (by omega) (fun _ => rfl) q216 (by first | omega | (dsimp only; omega)) (by first | omega | (dsimp only; omega)) dX3_row_49 rfl (fun a2 a2M a2N => ?_)
    refine z_widen (n' := 1) (k' := 20) (by first | omega | (dsimp only; omega)) (by first | omega | (dsimp only; omega)) ?_
    exact z_aret C dX3_row_51 (Or.inl ⟨_, rfl⟩) (Or.inr ⟨_, rfl⟩) (Nat.le_of_ble_eq_true rfl) (Nat.le_of_ble_eq_true rfl) ⟨a2, _, rfl, rfl, a2M, (by have ht9 : t = 0 := (by omega); subst ht9; exact xRow_z (by decide) (by decide) (fun _ => rfl) (fun _ => rfl))⟩
  · skip
    refine z_tsIn C ((t)) 52 (off := 48) dX3_row_4 c1r (by omega) (by omega) (by rw [c1]; rfl) (by decide) ?_
    refine z_iload_n C 53 1 dX3_row_52 rfl rfl ?_
    refine z_newa_c (f := (fun _ => (0 : Int32))) C hκ 55 (n).toNat (by omega) (by omega) (fun _ => rfl) q739 (by first | omega | (dsimp only; omega)) (by first | omega | (dsimp only; omega)) dX3_row_53 rfl (fun a3 a3M a3N => ?_)
    refine z_widen (n' := 1) (k' := 20) (by first | omega | (dsimp only; omega)) (by first | omega | (dsimp only; omega)) ?_
    exact z_aret C dX3_row_55 (Or.inl ⟨_, rfl⟩) (Or.inr ⟨_, rfl⟩) (Nat.le_of_ble_eq_true rfl) (Nat.le_of_ble_eq_true rfl) ⟨a3, _, rfl, rfl, a3M, (by have ht9 : t = 1 := (by omega); subst ht9; exact xRow_z (by decide) (by decide) (fun _ => rfl) (fun _ => rfl))⟩
  · skip
    refine z_tsIn C ((t)) 56 (off := 52) dX3_row_4 c1r (by omega) (by omega) (by rw [c1]; rfl) (by decide) ?_
    refine z_iload_n C 57 1 dX3_row_56 rfl rfl ?_
    refine z_newa_b (f := (fun _ => (0 : Int32))) C hκ 59 (n).toNat (by omega) (by omega) (fun _ => rfl) q636 (by first | omega | (dsimp only; omega)) (by first | omega | (dsimp only; omega)) dX3_row_57 rfl (fun a4 a4M a4N => ?_)
    refine z_widen (n' := 1) (k' := 20) (by first | omega | (dsimp only; omega)) (by first | omega | (dsimp only; omega)) ?_
    exact z_aret C dX3_row_59 (Or.inl ⟨_, rfl⟩) (Or.inr ⟨_, rfl⟩) (Nat.le_of_ble_eq_true rfl) (Nat.le_of_ble_eq_true rfl) ⟨a4, _, rfl, rfl, a4M, (by have ht9 : t = 2 := (by omega); subst ht9; exact xRow_z (by decide) (by decide) (fun _ => rfl) (fun _ => rfl))⟩
  · skip
    refine z_tsIn C ((t)) 60 (off := 56) dX3_row_4 c1r (by omega) (by omega) (by rw [c1]; rfl) (by decide) ?_
    refine z_iload_n C 61 1 dX3_row_60 rfl rfl ?_
    refine z_newa_s (f := (fun _ => (0 : Int32))) C hκ 63 (n).toNat (by omega) (by omega) (fun _ => rfl) q740 (by first | omega | (dsimp only; omega)) (by first | omega | (dsimp only; omega)) dX3_row_61 rfl (fun a5 a5M a5N => ?_)
    refine z_widen (n' := 1) (k' := 20) (by first | omega | (dsimp only; omega)) (by first | omega | (dsimp only; omega)) ?_
    exact z_aret C dX3_row_63 (Or.inl ⟨_, rfl⟩) (Or.inr ⟨_, rfl⟩) (Nat.le_of_ble_eq_true rfl) (Nat.le_of_ble_eq_true rfl) ⟨a5, _, rfl, rfl, a5M, (by have ht9 : t = 3 := (by omega); subst ht9; exact xRow_z (by decide) (by decide) (fun _ => rfl) (fun _ => rfl))⟩
  · skip
    refine z_tsIn C ((t)) 64 (off := 60) dX3_row_4 c1r (by omega) (by omega) (by rw [c1]; rfl) (by decide) ?_
    refine z_iload_n C 65 1 dX3_row_64 rfl rfl ?_
    refine z_newa_i (f := (fun _ => (0 : Int32))) C hκ 67 (n).toNat (by omega) (by omega) (fun _ => rfl) q741 (by first | omega | (dsimp only; omega)) (by first | omega | (dsimp only; omega)) dX3_row_65 rfl (fun a6 a6M a6N => ?_)
    refine z_widen (n' := 1) (k' := 20) (by first | omega | (dsimp only; omega)) (by first | omega | (dsimp only; omega)) ?_
    exact z_aret C dX3_row_67 (Or.inl ⟨_, rfl⟩) (Or.inr ⟨_, rfl⟩) (Nat.le_of_ble_eq_true rfl) (Nat.le_of_ble_eq_true rfl) ⟨a6, _, rfl, rfl, a6M, (by have ht9 : t = 4 := (by omega); subst ht9; exact xRow_z (by decide) (by decide) (fun _ => rfl) (fun _ => rfl))⟩
  · skip
    refine z_tsIn C ((t)) 68 (off := 64) dX3_row_4 c1r (by omega) (by omega) (by rw [c1]; rfl) (by decide) ?_
    refine z_iload_n C 69 1 dX3_row_68 rfl rfl ?_
    refine z_newa_l (f := (fun _ => (0 : Int64))) C hκ 71 (n).toNat (by omega) (by omega) (fun _ => rfl) q742 (by first | omega | (dsimp only; omega)) (by first | omega | (dsimp only; omega)) dX3_row_69 rfl (fun a7 a7M a7N => ?_)
    refine z_widen (n' := 1) (k' := 20) (by first | omega | (dsimp only; omega)) (by first | omega | (dsimp only; omega)) ?_
    exact z_aret C dX3_row_71 (Or.inl ⟨_, rfl⟩) (Or.inr ⟨_, rfl⟩) (Nat.le_of_ble_eq_true rfl) (Nat.le_of_ble_eq_true rfl) ⟨a7, _, rfl, rfl, a7M, (by have ht9 : t = 5 := (by omega); subst ht9; exact Or.inr (Or.inl ⟨rfl, _, rfl, fun j _ => rfl⟩))⟩
  · skip
    refine z_tsIn C ((t)) 72 (off := 68) dX3_row_4 c1r (by omega) (by omega) (by rw [c1]; rfl) (by decide) ?_
    refine z_iload_n C 73 1 dX3_row_72 rfl rfl ?_
    refine z_newa_f (f := (fun _ => (0 : UInt32))) C hκ 75 (n).toNat (by omega) (by omega) (fun _ => rfl) q743 (by first | omega | (dsimp only; omega)) (by first | omega | (dsimp only; omega)) dX3_row_73 rfl (fun a8 a8M a8N => ?_)
    refine z_widen (n' := 1) (k' := 20) (by first | omega | (dsimp only; omega)) (by first | omega | (dsimp only; omega)) ?_
    exact z_aret C dX3_row_75 (Or.inl ⟨_, rfl⟩) (Or.inr ⟨_, rfl⟩) (Nat.le_of_ble_eq_true rfl) (Nat.le_of_ble_eq_true rfl) ⟨a8, _, rfl, rfl, a8M, (by have ht9 : t = 6 := (by omega); subst ht9; exact Or.inr (Or.inr (Or.inl ⟨rfl, _, rfl, fun j _ => U32_0⟩)))⟩
  · skip
    refine z_tsOut C 76 dX3_row_4 c1r c1 (by decide) ?_
    refine z_iload_n C 77 1 dX3_row_76 rfl rfl ?_
    refine z_newa_d (f := (fun _ => (0 : UInt64))) C hκ 79 (n).toNat (by omega) (by omega) (fun _ => rfl) q744 (by first | omega | (dsimp only; omega)) (by first | omega | (dsimp only; omega)) dX3_row_77 rfl (fun a9 a9M a9N => ?_)
    refine z_widen (n' := 1) (k' := 20) (by first | omega | (dsimp only; omega)) (by first | omega | (dsimp only; omega)) ?_
    exact z_aret C dX3_row_79 (Or.inl ⟨_, rfl⟩) (Or.inr ⟨_, rfl⟩) (Nat.le_of_ble_eq_true rfl) (Nat.le_of_ble_eq_true rfl) ⟨a9, _, rfl, rfl, a9M, (by have ht9 : t = 7 := (by omega); subst ht9; exact Or.inr (Or.inr (Or.inr (Or.inl ⟨rfl, _, rfl, fun j _ => U64_0⟩))))⟩
set_option maxRecDepth 100000 in
theorem k4_row {l : Launch} {θ : zTh} {σ : xA} {w : mW} {Lf : Int → List Int} {M N : zMap} (hX : xM θ σ w (Lf) M) (hs : xS w) (hw : mWF w) (hT : zTb θ) (t : Int) (n : Int) (r_n : inR n) (ht : 0 ≤ t ∧ t < w 0 0) (hn : 0 ≤ n ∧ n ≤ 20) (hc : 8 < t ∧ w 1 t ≠ 4) : ZM θ l yX4_row cX4_row 2 (some (.object "java/lang/Object")) ⟨0, 1, 20, 0⟩ [.ref (σ 10 (t)), .int (iI (n))] (zP θ M N) (xNr θ σ w M N t (n).toNat) := by
  refine z_start (own := RX4) (nm := "row") pnX4 rfl rfl (Nat.le_of_ble_eq_true rfl) ?_
  intro κ hκ hκl C
  change Z κ (zP θ M N) 0 0 0 [(0, .ref (σ 10 (t))), (1, .int (iI (n)))] []
  have hS := hs.S
  have hB := hS.B
  obtain ⟨hB1, hB2, hB3, hB4, hB5, hB6⟩ := hS.B
  have hC := hS.C
  obtain ⟨h81, h82⟩ := hs.r8
  refine z_iload_n C 1 1 dX4_row_0 rfl rfl ?_
  refine z_anew C hκ hT 4 (n).toNat 12 rfl (by omega) (by omega) q721 q722 (by first | omega | (dsimp only; omega)) (by first | omega | (dsimp only; omega)) dX4_row_1 rfl (fun a1 a1M a1N => ?_)
  refine z_widen (n' := 1) (k' := 20) (by first | omega | (dsimp only; omega)) (by first | omega | (dsimp only; omega)) ?_
  exact z_aret C dX4_row_4 (Or.inl ⟨_, rfl⟩) (Or.inr ⟨_, rfl⟩) (Nat.le_of_ble_eq_true rfl) (Nat.le_of_ble_eq_true rfl) ⟨a1, _, rfl, rfl, a1M, (by have hca : xcA θ w t = θ.2.1 12 := (by unfold xcA; first | rw [if_pos (by omega)] | rw [if_neg (by omega), if_pos (by omega)] | rw [if_neg (by omega), if_neg (by omega)]); rw [← hca]; exact xRow_o (by omega) (fun _ => noneI_8 (by omega)))⟩
set_option maxRecDepth 100000 in
theorem k4_row_5 {l : Launch} {θ : zTh} {σ : xA} {w : mW} {Lf : Int → List Int} {M N : zMap} (hX : xM θ σ w (Lf) M) (hs : xS w) (hw : mWF w) (hT : zTb θ) (t : Int) (n : Int) (r_n : inR n) (ht : 0 ≤ t ∧ t < w 0 0) (hn : 0 ≤ n ∧ n ≤ 20) (hc : 8 < t ∧ w 1 t ≠ 4) : ZM θ l yX4_row cX4_row 2 (some (.object "java/lang/Object")) ⟨0, 1, 20, 0⟩ [.ref (σ 10 (t)), .int (iI (n))] (zP θ M N) (xNr θ σ w M N t (n).toNat) := by
  refine z_start (own := RX4) (nm := "row") pnX4 rfl rfl (Nat.le_of_ble_eq_true rfl) ?_
  intro κ hκ hκl C
  change Z κ (zP θ M N) 0 0 0 [(0, .ref (σ 10 (t))), (1, .int (iI (n)))] []
  have hS := hs.S
  have hB := hS.B
  obtain ⟨hB1, hB2, hB3, hB4, hB5, hB6⟩ := hS.B
  have hC := hS.C
  obtain ⟨h81, h82⟩ := hs.r8
  refine z_iload_n C 1 1 dX4_row_0 rfl rfl ?_
  refine z_anew C hκ hT 4 (n).toNat 12 rfl (by omega) (by omega) q721 q722 (by first | omega | (dsimp only; omega)) (by first | omega | (dsimp only; omega)) dX4_row_1 rfl (fun a1 a1M a1N => ?_)
  refine z_widen (n' := 1) (k' := 20) (by first | omega | (dsimp only; omega)) (by first | omega | (dsimp only; omega)) ?_
  exact z_aret C dX4_row_4 (Or.inl ⟨_, rfl⟩) (Or.inr ⟨_, rfl⟩) (Nat.le_of_ble_eq_true rfl) (Nat.le_of_ble_eq_true rfl) ⟨a1, _, rfl, rfl, a1M, (by have hca : xcA θ w t = θ.2.1 12 := (by unfold xcA; first | rw [if_pos (by omega)] | rw [if_neg (by omega), if_pos (by omega)] | rw [if_neg (by omega), if_neg (by omega)]); rw [← hca]; exact xRow_o (by omega) (fun _ => noneI_8 (by omega)))⟩
set_option maxRecDepth 100000 in
theorem k8_row {l : Launch} {θ : zTh} {σ : xA} {w : mW} {Lf : Int → List Int} {M N : zMap} (hX : xM θ σ w (Lf) M) (hs : xS w) (hw : mWF w) (hT : zTb θ) (t : Int) (n : Int) (r_n : inR n) (ht : 0 ≤ t ∧ t < w 0 0) (hn : 0 ≤ n ∧ n ≤ 20) (hc : 8 ≤ t ∧ w 1 t = 4 ∧ xci w t = 8) : ZM θ l yX8_row cX8_row 2 (some (.object "java/lang/Object")) ⟨0, 1, 20, 0⟩ [.ref (σ 10 (t)), .int (iI (n))] (zP θ M N) (xNr θ σ w M N t (n).toNat) := by
  refine z_start (own := RX8) (nm := "row") pnX8 rfl rfl (Nat.le_of_ble_eq_true rfl) ?_
  intro κ hκ hκl C
  change Z κ (zP θ M N) 0 0 0 [(0, .ref (σ 10 (t))), (1, .int (iI (n)))] []
  have hS := hs.S
  have hB := hS.B
  obtain ⟨hB1, hB2, hB3, hB4, hB5, hB6⟩ := hS.B
  have hC := hS.C
  obtain ⟨h81, h82⟩ := hs.r8
  refine z_iload_n C 1 1 dX8_row_0 rfl rfl ?_
  refine z_anew C hκ hT 4 (n).toNat 13 rfl (by omega) (by omega) q734 q735 (by first | omega | (dsimp only; omega)) (by first | omega | (dsimp only; omega)) dX8_row_1 rfl (fun a1 a1M a1N => ?_)
  refine z_widen (n' := 1) (k' := 20) (by first | omega | (dsimp only; omega)) (by first | omega | (dsimp only; omega)) ?_
  exact z_aret C dX8_row_4 (Or.inl ⟨_, rfl⟩) (Or.inr ⟨_, rfl⟩) (Nat.le_of_ble_eq_true rfl) (Nat.le_of_ble_eq_true rfl) ⟨a1, _, rfl, rfl, a1M, (by have hca : xcA θ w t = θ.2.1 13 := (by have h8 := hs.r8.1; have hne : t ≠ 8 := (fun e => by subst e; omega); unfold xcA; first | rw [if_pos (by omega)] | rw [if_neg (by omega), if_pos (by omega)] | rw [if_neg (by omega), if_neg (by omega)]); rw [← hca]; exact xRow_o (by omega) (fun _ => noneI_8 (by omega)))⟩
set_option maxRecDepth 100000 in
theorem k5_row {l : Launch} {θ : zTh} {σ : xA} {w : mW} {Lf : Int → List Int} {M N : zMap} (hX : xM θ σ w (Lf) M) (hs : xS w) (hw : mWF w) (hT : zTb θ) (t : Int) (n : Int) (r_n : inR n) (ht : 0 ≤ t ∧ t < w 0 0) (hn : 0 ≤ n ∧ n ≤ 20) (hc : 8 ≤ t ∧ (w 1 t = 1 ∨ w 1 t = 2) ∧ xci w t = 5) : ZM θ l yX5_row cX5_row 2 (some (.object "java/lang/Object")) ⟨1, 1, 20, 21⟩ [.ref (σ 10 (t)), .int (iI (n))] (zP θ M N) (xNr θ σ w M N t (n).toNat) := by
  refine z_start (own := RX5) (nm := "row") pnX5 rfl rfl (Nat.le_of_ble_eq_true rfl) ?_
  intro κ hκ hκl C
  change Z κ (zP θ M N) 0 0 0 [(0, .ref (σ 10 (t))), (1, .int (iI (n)))] []
  have hS := hs.S
  have hB := hS.B
  obtain ⟨hB1, hB2, hB3, hB4, hB5, hB6⟩ := hS.B
  have hC := hS.C
  obtain ⟨h81, h82⟩ := hs.r8
  obtain ⟨f1a, f1b, f1c, f1d, f1e, f1f, f1g, f1h⟩ := hS.T (show 0 ≤ t by omega) (by omega)
  obtain ⟨f1i, f1j, f1k, f1l⟩ := hs.ty (show 0 ≤ t by omega) (by omega)
  have hp8 := (hs.BT t ht.1 ht.2).2.1 (by unfold clT; simp; omega)
  refine z_aload_n C 1 0 dX5_row_0 rfl rfl ?_
  refine z_getf C hκ (v := va_rf (xo σ 10 (w 2 (t)))) 4 8 zk_X5 (xM.ty5 hX (by omega) (by omega) hc.2.2) (by decide) q226 (Or.inl rfl) rfl dX5_row_1 rfl ?_
  rcases Int.lt_or_le (w 2 (t)) 0 with n2 | n2
  · skip
    rw [xo_n n2]
    refine z_as (st' := [.null]) (lv' := [(0, .ref (σ 10 (t))), (1, .int (iI (n)))]) rfl rfl rfl ?_
    refine z_ifnonnullN C 7 dX5_row_4 rfl ?_
    refine z_iload_n C 8 1 dX5_row_7 rfl rfl ?_
    refine z_anew C hκ hT 11 (n).toNat 10 rfl (by omega) (by omega) q726 q152 (by first | omega | (dsimp only; omega)) (by first | omega | (dsimp only; omega)) dX5_row_8 rfl (fun a3 a3M a3N => ?_)
    refine z_widen (n' := 1) (k' := 20) (by first | omega | (dsimp only; omega)) (by first | omega | (dsimp only; omega)) ?_
    refine z_goto C 19 dX5_row_11 (by decide) ?_
    exact z_aret C dX5_row_19 (Or.inl ⟨_, rfl⟩) (Or.inr ⟨_, rfl⟩) (Nat.le_of_ble_eq_true rfl) (Nat.le_of_ble_eq_true rfl) ⟨a3, _, rfl, rfl, a3M, (by have hca : xcA θ w t = θ.2.1 10 := (by unfold xcA; first | rw [if_pos (by omega)] | rw [if_neg (by omega), if_pos (by omega)] | rw [if_neg (by omega), if_neg (by omega)]); rw [← hca]; exact xRow_o (by omega) (fun _ => noneI_8 (by omega)))⟩
  · skip
    rw [xo_y n2]
    refine z_as (st' := [.ref (σ 10 (w 2 (t)))]) (lv' := [(0, .ref (σ 10 (t))), (1, .int (iI (n)))]) rfl rfl rfl ?_
    refine z_ifnonnull C 14 dX5_row_4 (by decide) ?_
    refine z_aload_n C 15 0 dX5_row_14 rfl rfl ?_
    refine z_iload_n C 16 1 dX5_row_15 rfl rfl ?_
    refine z_callSU (As := [.int (iI (n))]) (rest := []) C hκ hκl 19 (k4_row hX hs hw hT (t) (n) r_n ⟨by omega, by omega⟩ ⟨by omega, by omega⟩ ⟨by have h28 := hs.r8.1; have : t ≠ 8 := (fun e => by subst e; omega); omega, by omega⟩) dX5_row_16 q727 q2571 q240 q719 q94 q720 ⟨by decide, rfl⟩ (Nat.le_of_ble_eq_true rfl) (Nat.le_of_ble_eq_true rfl) (Nat.le_of_ble_eq_true rfl) (Nat.le_of_ble_eq_true rfl) (zrec_P (xM.ty5 hX (by omega) (by omega) hc.2.2)) rfl rfl (Nat.le_of_ble_eq_true rfl) rfl (fun v9 Q9 h9 => ?_)
    obtain ⟨ar4, er4, rfl, rfl, nor4, rowr4⟩ := h9
    refine z_as (Pic' := zP θ (zup M ar4 er4) N) (st' := [.ref (ar4)]) rfl rfl rfl ?_
    refine z_widen (n' := 1) (k' := 20) (Nat.le_refl _) (Nat.le_refl _) ?_
    exact z_aret C dX5_row_19 (Or.inl ⟨_, rfl⟩) (Or.inr ⟨_, rfl⟩) (Nat.le_of_ble_eq_true rfl) (Nat.le_of_ble_eq_true rfl) ⟨ar4, er4, rfl, rfl, nor4, rowr4⟩
section XV
variable {κ : zK} {own nm : String} {cc : ByteArray} {nL : Nat} {ret : Option FieldType} {rm : Room} {P : Option Value → (Heap → Prop) → Prop} {n k pc : Nat} {lv : List (Nat × Value)} {st rest : List Value}
variable {θ : zTh} {l : Launch} {σ : xA} {w : mW} {Lf : Int → List Int} {M N : zMap} {index : Nat}
theorem xv_row (C : ZC κ own nm cc nL ret rm P) (hκ : κ.1 = θ) (hκl : κ.2.2.1 = l) (hX : xM θ σ w Lf M) (hs : xS w) (hw : mWF w) (hT : zTb θ) (t n9 : Int) (r_n : inR n9) (ht : 0 ≤ t ∧ t < w 0 0) (hn : 0 ≤ n9 ∧ n9 ≤ 20) (q : Nat) (d : decode cc pc = .ok (.invokevirtual index, 3)) (hl : Cond.methodLink own index (⟨"ReflectMirror$Type", "row", "(I)Ljava/lang/Object;"⟩ : MethodName) ∈ lw_all) (hf : 4 ≤ rm.frames) (hlo : 81 ≤ rm.locals) (hce : n + 1 ≤ rm.cells) (hsl : k + 20 ≤ rm.slots) (hsz : (rest.map fun v => v.category).sum ≤ 8) (hq : pc + 3 = q) (kk : ∀ (a : Nat) (e : va_E), M a = none → xRow θ σ w t n9.toNat (fun _ => noneI t) e → Z κ (zP θ (zup M a e) N) (n + 1) (k + 20) q lv (.ref a :: rest)) : Z κ (zP θ M N) n k pc lv (.int (iI n9) :: .ref (σ 10 t) :: rest) := by
  have h8 := hs.r8.1
  rcases hs.cls ht.1 ht.2 with ⟨e1, e2, e3⟩ | ⟨e1, e2, e3⟩ | ⟨e1, e2, e3⟩ | ⟨e1, e2, e3⟩
  · refine z_callO (owner := RX2) (As := [.int (iI n9)]) (rest := rest) C hκ hκl q (k3_row hX hs hw hT t n9 r_n ht hn (by omega)) d hl q717 q716 q736 q728 q729 q93 q730 ⟨by decide, by decide, rfl⟩ (Nat.le_trans (Nat.le_of_ble_eq_true rfl) hf) (Nat.le_trans (Nat.le_of_ble_eq_true rfl) hlo) hce hsl (zrec_P (xM.ty3 hX ht.1 ht.2 (by omega))) rfl rfl hsz hq (fun v9 Q9 h9 => ?_)
    obtain ⟨a9, e9, rfl, rfl, hn9, hr9⟩ := h9
    exact kk a9 e9 hn9 hr9
  · refine z_callO (owner := RX2) (As := [.int (iI n9)]) (rest := rest) C hκ hκl q (k4_row hX hs hw hT t n9 r_n ht hn ⟨by have : t ≠ 8 := (fun e => by subst e; omega); omega, by omega⟩) d hl q717 q716 q736 q718 q719 q94 q720 ⟨by decide, by decide, rfl⟩ (Nat.le_trans (Nat.le_of_ble_eq_true rfl) hf) (Nat.le_trans (Nat.le_of_ble_eq_true rfl) hlo) hce hsl (zrec_P (xM.ty4 hX ht.1 ht.2 (by omega))) rfl rfl hsz hq (fun v9 Q9 h9 => ?_)
    obtain ⟨a9, e9, rfl, rfl, hn9, hr9⟩ := h9
    exact kk a9 e9 hn9 hr9
  · refine z_callO (owner := RX2) (As := [.int (iI n9)]) (rest := rest) C hκ hκl q (k5_row hX hs hw hT t n9 r_n ht hn (by omega)) d hl q717 q716 q736 q723 q724 q95 q725 ⟨by decide, by decide, rfl⟩ (Nat.le_trans (Nat.le_of_ble_eq_true rfl) hf) (Nat.le_trans (Nat.le_of_ble_eq_true rfl) hlo) hce hsl (zrec_P (xM.ty5 hX ht.1 ht.2 (by omega))) rfl rfl hsz hq (fun v9 Q9 h9 => ?_)
    obtain ⟨a9, e9, rfl, rfl, hn9, hr9⟩ := h9
    exact kk a9 e9 hn9 hr9
  · refine z_callO (owner := RX2) (As := [.int (iI n9)]) (rest := rest) C hκ hκl q (k8_row hX hs hw hT t n9 r_n ht hn (by omega)) d hl q717 q716 q736 q731 q732 q98 q733 ⟨by decide, by decide, rfl⟩ (Nat.le_trans (Nat.le_of_ble_eq_true rfl) hf) (Nat.le_trans (Nat.le_of_ble_eq_true rfl) hlo) hce hsl (zrec_P (xM.ty8 hX ht.1 ht.2 (by omega))) rfl rfl hsz hq (fun v9 Q9 h9 => ?_)
    obtain ⟨a9, e9, rfl, rfl, hn9, hr9⟩ := h9
    exact kk a9 e9 hn9 hr9
end XV
