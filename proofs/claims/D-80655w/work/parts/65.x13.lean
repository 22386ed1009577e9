/-- the entry of a body told -/
def xBoE (σ : xA) (w : mW) (m k x y : Int) : va_E :=
  let u : Value := .ref (σ 0 (0)); let a : Value := .ref (σ 20 (m)); let f : Value := va_rf (xo σ 20 (xfI w x))
  if k = 0 then .inr (11, [a, u, u]) else if k = 1 then .inr (12, [a, u, .int (iI (x)), u]) else if k = 2 then .inr (13, [a, u, f, u]) else if k = 3 then .inr (14, [a, u, f, u, .int (iI (y)), u])
  else if k = 4 then .inr (15, [a, u, .int (iI (x)), u]) else if k = 5 then .inr (16, [a, u, f, u]) else if k = 6 then .inr (17, [a, u, .int (iI (x)), u, .int (iI (y)), u])
  else if k = 7 then .inr (18, [a, u, va_rf (xo σ 20 (guN w m)), u, u]) else .inr (21, [a, u, .int (iI (x)), u, .int (iI (y)), u])
section XBOE
variable {σ : xA} {w : mW} {m k x y : Int} {o : Option Nat}
theorem xBoE_0 (h : k = 0) : xBoE σ w m k x y = .inr (11, [.ref (σ 20 (m)), .ref (σ 0 (0)), .ref (σ 0 (0))]) := by subst h; rfl
theorem xBoE_1 (h : k = 1) : xBoE σ w m k x y = .inr (12, [.ref (σ 20 (m)), .ref (σ 0 (0)), .int (iI (x)), .ref (σ 0 (0))]) := by subst h; rfl
theorem xBoE_2 (h : k = 2) (ho : xo σ 20 (xfI w x) = o) : xBoE σ w m k x y = .inr (13, [.ref (σ 20 (m)), .ref (σ 0 (0)), va_rf o, .ref (σ 0 (0))]) := by subst h; subst ho; rfl
theorem xBoE_3 (h : k = 3) (ho : xo σ 20 (xfI w x) = o) : xBoE σ w m k x y = .inr (14, [.ref (σ 20 (m)), .ref (σ 0 (0)), va_rf o, .ref (σ 0 (0)), .int (iI (y)), .ref (σ 0 (0))]) := by subst h; subst ho; rfl
theorem xBoE_4 (h : k = 4) : xBoE σ w m k x y = .inr (15, [.ref (σ 20 (m)), .ref (σ 0 (0)), .int (iI (x)), .ref (σ 0 (0))]) := by subst h; rfl
theorem xBoE_5 (h : k = 5) (ho : xo σ 20 (xfI w x) = o) : xBoE σ w m k x y = .inr (16, [.ref (σ 20 (m)), .ref (σ 0 (0)), va_rf o, .ref (σ 0 (0))]) := by subst h; subst ho; rfl
theorem xBoE_6 (h : k = 6) : xBoE σ w m k x y = .inr (17, [.ref (σ 20 (m)), .ref (σ 0 (0)), .int (iI (x)), .ref (σ 0 (0)), .int (iI (y)), .ref (σ 0 (0))]) := by subst h; rfl
theorem xBoE_7 (h : k = 7) (ho : xo σ 20 (guN w m) = o) : xBoE σ w m k x y = .inr (18, [.ref (σ 20 (m)), .ref (σ 0 (0)), va_rf o, .ref (σ 0 (0)), .ref (σ 0 (0))]) := by subst h; subst ho; rfl
theorem xBoE_8 (h0 : 0 ≤ k) (h : k < 0 ∨ 7 < k) : xBoE σ w m k x y = .inr (21, [.ref (σ 20 (m)), .ref (σ 0 (0)), .int (iI (x)), .ref (σ 0 (0)), .int (iI (y)), .ref (σ 0 (0))]) := by
  unfold xBoE
  simp only
  rw [if_neg (by omega), if_neg (by omega), if_neg (by omega), if_neg (by omega), if_neg (by omega), if_neg (by omega), if_neg (by omega), if_neg (by omega)]
theorem xf_y (h : mbB w x = true) : xo σ 20 (xfI w x) = some (σ 20 (x)) := by
  have h2 : 0 ≤ x ∧ x < w 11 0 := of_decide_eq_true h
  unfold xfI; rw [if_pos h, xo_y h2.1]
theorem xf_n (h : mbB w x = false) : xo σ 20 (xfI w x) = none := by
  unfold xfI; rw [if_neg (by simp [h]), xo_n (by decide)]
theorem gu_n (h : w 2 (w 13 m) < 0) (h' : -1 ≤ w 2 (w 13 m)) : xo σ 20 (guN w m) = none := by
  unfold guN; rw [if_pos (by omega), xo_n (by decide)]
theorem gu_y (hS : mS w) (h : 0 ≤ w 2 (w 13 m)) (h1 : w 2 (w 13 m) < w 0 0) : xo σ 20 (guN w m) = xo σ 20 ((sF (xmO w (w 2 (w 13 (m))) (m) 2) (xCh w 2 true) 60 (w 2 (w 13 (m))) (fun _ => false)).1) := by
  unfold guN; rw [if_neg (by omega), fnI_x hS ⟨h, h1⟩ ⟨by decide, by decide⟩]
end XBOE

set_option maxRecDepth 100000 in
theorem k0_bodyOf {l : Launch} {θ : zTh} {σ : xA} {w : mW} {M N : zMap} (hX : xM θ σ w (xL w) M) (hs : xS w) (hw : mWF w) (hT : zTb θ) (m : Int) (k : Int) (x : Int) (y : Int) (r_k : inR k) (r_x : inR x) (r_y : inR y) (hm : 0 ≤ m ∧ m < w 11 0) (hk : 0 ≤ k ∧ k ≤ 8) (hUq : xUq w) : ZM θ l yX0_bodyOf cX0_bodyOf 6 (some (.object "ReflectMirror$Body")) ⟨133, 3, 71, 4022⟩ [.ref (σ 0 (0)), .ref (σ 20 (m)), .int (iI (k)), .int (iI (x)), .int (iI (y))] (zP θ M N) (fun v9 Q9 => ∃ (M' : zMap) (b : Nat), v9 = some (.ref b) ∧ Q9 = zP θ M' N ∧ zGe M M' ∧ M b = none ∧ M' b = some (xBoE σ w m k x y)) := by
  refine z_start (own := RX0) (nm := "bodyOf") pnX0 rfl rfl (Nat.le_of_ble_eq_true rfl) ?_
  intro κ hκ hκl C
  change Z κ (zP θ M N) 0 0 0 [(0, .ref (σ 0 (0))), (1, .ref (σ 20 (m))), (2, .int (iI (k))), (3, .int (iI (x))), (4, .int (iI (y)))] []
  have hS := hs.S
  have hB := hS.B
  obtain ⟨hB1, hB2, hB3, hB4, hB5, hB6⟩ := hS.B
  have hC := hS.C
  obtain ⟨h81, h82⟩ := hs.r8
  have ge0 : zGe M M := zGe.rf
  obtain ⟨f1a, f1b, f1c, f1d⟩ := hS.M (show 0 ≤ m by omega) (by omega)
  refine z_iload_n C 1 2 dX0_bodyOf_0 rfl rfl ?_
  have c2r : inR (k) := r_k
  rcases (show k = 0 ∨ k = 1 ∨ k = 2 ∨ k = 3 ∨ k = 4 ∨ k = 5 ∨ k = 6 ∨ k = 7 ∨ (k < 0 ∨ 7 < k) by omega) with c2 | c2 | c2 | c2 | c2 | c2 | c2 | c2 | c2
  · skip
    refine z_tsIn C (k) 48 (off := 47) dX0_bodyOf_1 c2r (by omega) (by omega) (by rw [c2]; rfl) (by decide) ?_
    refine z_new (fs := [.null, .null, .null]) C hκ 51 zk_X11 q762 q763 q105 (fun j9 h9 => match j9, h9 with | 0, _ => rfl | 1, _ => rfl | 2, _ => rfl | (j9 + 3), h9 => absurd h9 (by omega)) (Nat.le_of_ble_eq_true rfl) (Nat.le_of_ble_eq_true rfl) dX0_bodyOf_48 rfl (fun a3 a3M a3N => ?_)
    refine z_widen (n' := 1) (k' := 3) (Nat.le_refl _) (Nat.le_refl _) ?_
    have fr4 : xFr σ w (xL w) a3 := hX.fr a3M
    have fr5 : M a3 = none := ge0.no a3M
    obtain ⟨M1, eM1⟩ : ∃ z9 : zMap, zup M a3 (.inr (11, [.null, .null, .null]) : va_E) = z9 := ⟨_, rfl⟩
    rw [eM1]
    have hX6 : xM θ σ w (xL w) M1 := eM1 ▸ hX.up fr4
    have ge7 : zGe M M1 := eM1 ▸ ge0.up fr5
    have o8 : M1 a3 = some (.inr (11, [.null, .null, .null])) := eM1 ▸ zup_s
    refine z_dup C 52 dX0_bodyOf_51 rfl rfl ?_
    refine z_aload_n C 53 0 dX0_bodyOf_52 rfl rfl ?_
    refine z_aload_n C 54 1 dX0_bodyOf_53 rfl rfl ?_
    refine z_callI (As := [.ref (σ 0 (0)), .ref (σ 20 (m))]) (rest := [.ref (a3)]) C hκ hκl 57 (k11_init_11 hT (a3) (σ 0 (0)) (σ 20 (m)) o8) dX0_bodyOf_54 q764 q765 q105 q766 znX11_init rfl (Nat.le_of_ble_eq_true rfl) (Nat.le_of_ble_eq_true rfl) (Nat.le_of_ble_eq_true rfl) (Nat.le_of_ble_eq_true rfl) rfl (Nat.le_of_ble_eq_true rfl) rfl (fun v9 Q9 h9 => ?_)
    obtain ⟨rfl, rfl⟩ := h9
    obtain ⟨M2, eM2⟩ : ∃ z9 : zMap, zup M1 a3 (.inr (11, [.ref ((σ 20 (m))), .ref ((σ 0 (0))), .ref ((σ 0 (0)))]) : va_E) = z9 := ⟨_, rfl⟩
    rw [eM2]
    have hX9 : xM θ σ w (xL w) M2 := eM2 ▸ hX6.up fr4
    have ge10 : zGe M M2 := eM2 ▸ ge7.up fr5
    have o11 : M2 a3 = some (.inr (11, [.ref ((σ 20 (m))), .ref ((σ 0 (0))), .ref ((σ 0 (0)))])) := eM2 ▸ zup_s
    refine z_as (st' := [.ref (a3)]) rfl rfl rfl ?_
    exact z_aret C dX0_bodyOf_57 (Or.inl ⟨_, rfl⟩) (Or.inr ⟨_, rfl⟩) (Nat.le_of_ble_eq_true rfl) (Nat.le_of_ble_eq_true rfl) ⟨M2, a3, rfl, rfl, ge10, fr5, o11.trans (congrArg some (xBoE_0 (by assumption)).symm)⟩
  · skip
    refine z_tsIn C (k) 58 (off := 57) dX0_bodyOf_1 c2r (by omega) (by omega) (by rw [c2]; rfl) (by decide) ?_
    refine z_new (fs := [.null, .null, .int (iI (0)), .null]) C hκ 61 zk_X12 q804 q805 q106 (fun j9 h9 => match j9, h9 with | 0, _ => rfl | 1, _ => rfl | 2, _ => rfl | 3, _ => rfl | (j9 + 4), h9 => absurd h9 (by omega)) (Nat.le_of_ble_eq_true rfl) (Nat.le_of_ble_eq_true rfl) dX0_bodyOf_58 rfl (fun a12 a12M a12N => ?_)
    refine z_widen (n' := 1) (k' := 4) (Nat.le_refl _) (Nat.le_refl _) ?_
    have fr13 : xFr σ w (xL w) a12 := hX.fr a12M
    have fr14 : M a12 = none := ge0.no a12M
    obtain ⟨M3, eM3⟩ : ∃ z9 : zMap, zup M a12 (.inr (12, [.null, .null, .int (iI (0)), .null]) : va_E) = z9 := ⟨_, rfl⟩
    rw [eM3]
    have hX15 : xM θ σ w (xL w) M3 := eM3 ▸ hX.up fr13
    have ge16 : zGe M M3 := eM3 ▸ ge0.up fr14
    have o17 : M3 a12 = some (.inr (12, [.null, .null, .int (iI (0)), .null])) := eM3 ▸ zup_s
    refine z_dup C 62 dX0_bodyOf_61 rfl rfl ?_
    refine z_aload_n C 63 0 dX0_bodyOf_62 rfl rfl ?_
    refine z_aload_n C 64 1 dX0_bodyOf_63 rfl rfl ?_
    refine z_iload_n C 65 3 dX0_bodyOf_64 rfl rfl ?_
    refine z_callI (As := [.ref (σ 0 (0)), .ref (σ 20 (m)), .int (iI (x))]) (rest := [.ref (a12)]) C hκ hκl 68 (k12_init_12 hT (a12) (σ 0 (0)) (σ 20 (m)) (x) r_x o17) dX0_bodyOf_65 q806 q807 q106 q808 znX12_init rfl (Nat.le_of_ble_eq_true rfl) (Nat.le_of_ble_eq_true rfl) (Nat.le_of_ble_eq_true rfl) (Nat.le_of_ble_eq_true rfl) rfl (Nat.le_of_ble_eq_true rfl) rfl (fun v9 Q9 h9 => ?_)
    obtain ⟨rfl, rfl⟩ := h9
    obtain ⟨M4, eM4⟩ : ∃ z9 : zMap, zup M3 a12 (.inr (12, [.ref ((σ 20 (m))), .ref ((σ 0 (0))), .int (iI (x)), .ref ((σ 0 (0)))]) : va_E) = z9 := ⟨_, rfl⟩
    rw [eM4]
    have hX18 : xM θ σ w (xL w) M4 := eM4 ▸ hX15.up fr13
    have ge19 : zGe M M4 := eM4 ▸ ge16.up fr14
    have o20 : M4 a12 = some (.inr (12, [.ref ((σ 20 (m))), .ref ((σ 0 (0))), .int (iI (x)), .ref ((σ 0 (0)))])) := eM4 ▸ zup_s
    refine z_as (st' := [.ref (a12)]) rfl rfl rfl ?_
    exact z_aret C dX0_bodyOf_68 (Or.inl ⟨_, rfl⟩) (Or.inr ⟨_, rfl⟩) (Nat.le_of_ble_eq_true rfl) (Nat.le_of_ble_eq_true rfl) ⟨M4, a12, rfl, rfl, ge19, fr14, o20.trans (congrArg some (xBoE_1 (by assumption)).symm)⟩
  · skip
    refine z_tsIn C (k) 69 (off := 68) dX0_bodyOf_1 c2r (by omega) (by omega) (by rw [c2]; rfl) (by decide) ?_
    refine z_new (fs := [.null, .null, .null, .null]) C hκ 72 zk_X13 q823 q824 q107 (fun j9 h9 => match j9, h9 with | 0, _ => rfl | 1, _ => rfl | 2, _ => rfl | 3, _ => rfl | (j9 + 4), h9 => absurd h9 (by omega)) (Nat.le_of_ble_eq_true rfl) (Nat.le_of_ble_eq_true rfl) dX0_bodyOf_69 rfl (fun a21 a21M a21N => ?_)
    refine z_widen (n' := 1) (k' := 4) (Nat.le_refl _) (Nat.le_refl _) ?_
    have fr22 : xFr σ w (xL w) a21 := hX.fr a21M
    have fr23 : M a21 = none := ge0.no a21M
    obtain ⟨M5, eM5⟩ : ∃ z9 : zMap, zup M a21 (.inr (13, [.null, .null, .null, .null]) : va_E) = z9 := ⟨_, rfl⟩
    rw [eM5]
    have hX24 : xM θ σ w (xL w) M5 := eM5 ▸ hX.up fr22
    have ge25 : zGe M M5 := eM5 ▸ ge0.up fr23
    have o26 : M5 a21 = some (.inr (13, [.null, .null, .null, .null])) := eM5 ▸ zup_s
    refine z_dup C 73 dX0_bodyOf_72 rfl rfl ?_
    refine z_aload_n C 74 0 dX0_bodyOf_73 rfl rfl ?_
    refine z_aload_n C 75 1 dX0_bodyOf_74 rfl rfl ?_
    refine z_aload_n C 76 0 dX0_bodyOf_75 rfl rfl ?_
    refine z_iload_n C 77 3 dX0_bodyOf_76 rfl rfl ?_
    refine z_callV (As := [.int (iI (x))]) (rest := [.ref (σ 20 (m)), .ref (σ 0 (0)), .ref (a21), .ref (a21)]) C hκ hκl 80 (k0_isMember hX24 hs hw hT (x) r_x) dX0_bodyOf_77 q795 q797 qs7 q90 q798 znX0_isMember (Nat.le_of_ble_eq_true rfl) (Nat.le_of_ble_eq_true rfl) (Nat.le_of_ble_eq_true rfl) (Nat.le_of_ble_eq_true rfl) (zrec_P hX24.o) rfl rfl (Nat.le_of_ble_eq_true rfl) rfl (fun v9 Q9 h9 => ?_)
    obtain ⟨rfl, rfl⟩ := h9
    refine z_as (st' := [.int (iI (bI (mbB w (x)))), .ref (σ 20 (m)), .ref (σ 0 (0)), .ref (a21), .ref (a21)]) rfl rfl rfl ?_
    refine z_ifB_eq C 92 83 dX0_bodyOf_80 (by decide) rfl (fun c27 => ?_) (fun c27 => ?_)
    · skip
      have c27b : ¬ (0 ≤ (x) ∧ (x) < w 11 0) := of_decide_eq_false c27
      refine z_null C 93 dX0_bodyOf_92 rfl ?_
      refine z_callI (As := [.ref (σ 0 (0)), .ref (σ 20 (m)), .null]) (rest := [.ref (a21)]) C hκ hκl 96 (k13_init_13 hT (a21) (σ 0 (0)) (σ 20 (m)) (none) o26) dX0_bodyOf_93 q825 q826 q107 q827 znX13_init rfl (Nat.le_of_ble_eq_true rfl) (Nat.le_of_ble_eq_true rfl) (Nat.le_of_ble_eq_true rfl) (Nat.le_of_ble_eq_true rfl) rfl (Nat.le_of_ble_eq_true rfl) rfl (fun v9 Q9 h9 => ?_)
      obtain ⟨rfl, rfl⟩ := h9
      obtain ⟨M6, eM6⟩ : ∃ z9 : zMap, zup M5 a21 (.inr (13, [.ref ((σ 20 (m))), .ref ((σ 0 (0))), va_rf (none), .ref ((σ 0 (0)))]) : va_E) = z9 := ⟨_, rfl⟩
      rw [eM6]
      have hX28 : xM θ σ w (xL w) M6 := eM6 ▸ hX24.up fr22
      have ge29 : zGe M M6 := eM6 ▸ ge25.up fr23
      have o30 : M6 a21 = some (.inr (13, [.ref ((σ 20 (m))), .ref ((σ 0 (0))), va_rf (none), .ref ((σ 0 (0)))])) := eM6 ▸ zup_s
      refine z_as (st' := [.ref (a21)]) rfl rfl rfl ?_
      exact z_aret C dX0_bodyOf_96 (Or.inl ⟨_, rfl⟩) (Or.inr ⟨_, rfl⟩) (Nat.le_of_ble_eq_true rfl) (Nat.le_of_ble_eq_true rfl) ⟨M6, a21, rfl, rfl, ge29, fr23, o30.trans (congrArg some (xBoE_2 (by assumption) (by first | exact xf_y (by assumption) | exact xf_n (by assumption))).symm)⟩
    · skip
      have c27b : (0 ≤ (x) ∧ (x) < w 11 0) := of_decide_eq_true c27
      refine z_aload_n C 84 0 dX0_bodyOf_83 rfl rfl ?_
      refine z_getf C hκ (v := .ref (σ 2 (0))) 87 2 zk_X0 hX24.o (by decide) q329 (Or.inl rfl) rfl dX0_bodyOf_84 rfl ?_
      refine z_iload_n C 88 3 dX0_bodyOf_87 rfl rfl ?_
      refine x_aM C hκ 89 hX24 hs (by omega) (by omega) dX0_bodyOf_88 rfl ?_
      obtain ⟨f31a, f31b, f31c, f31d⟩ := hS.M (show 0 ≤ x by omega) (by omega)
      refine z_goto C 93 dX0_bodyOf_89 (by decide) ?_
      refine z_callI (As := [.ref (σ 0 (0)), .ref (σ 20 (m)), .ref (σ 20 (x))]) (rest := [.ref (a21)]) C hκ hκl 96 (k13_init_13 hT (a21) (σ 0 (0)) (σ 20 (m)) (some (σ 20 (x))) o26) dX0_bodyOf_93 q825 q826 q107 q827 znX13_init rfl (Nat.le_of_ble_eq_true rfl) (Nat.le_of_ble_eq_true rfl) (Nat.le_of_ble_eq_true rfl) (Nat.le_of_ble_eq_true rfl) rfl (Nat.le_of_ble_eq_true rfl) rfl (fun v9 Q9 h9 => ?_)
      obtain ⟨rfl, rfl⟩ := h9
      obtain ⟨M7, eM7⟩ : ∃ z9 : zMap, zup M5 a21 (.inr (13, [.ref ((σ 20 (m))), .ref ((σ 0 (0))), va_rf ((some (σ 20 (x)))), .ref ((σ 0 (0)))]) : va_E) = z9 := ⟨_, rfl⟩
      rw [eM7]
      have hX32 : xM θ σ w (xL w) M7 := eM7 ▸ hX24.up fr22
      have ge33 : zGe M M7 := eM7 ▸ ge25.up fr23
      have o34 : M7 a21 = some (.inr (13, [.ref ((σ 20 (m))), .ref ((σ 0 (0))), va_rf ((some (σ 20 (x)))), .ref ((σ 0 (0)))])) := eM7 ▸ zup_s
      refine z_as (st' := [.ref (a21)]) rfl rfl rfl ?_
      exact z_aret C dX0_bodyOf_96 (Or.inl ⟨_, rfl⟩) (Or.inr ⟨_, rfl⟩) (Nat.le_of_ble_eq_true rfl) (Nat.le_of_ble_eq_true rfl) ⟨M7, a21, rfl, rfl, ge33, fr23, o34.trans (congrArg some (xBoE_2 (by assumption) (by first | exact xf_y (by assumption) | exact xf_n (by assumption))).symm)⟩
  · skip
    refine z_tsIn C (k) 97 (off := 96) dX0_bodyOf_1 c2r (by omega) (by omega) (by rw [c2]; rfl) (by decide) ?_
    refine z_new (fs := [.null, .null, .null, .null, .int (iI (0)), .null]) C hκ 100 zk_X14 q840 q841 q108 (fun j9 h9 => match j9, h9 with | 0, _ => rfl | 1, _ => rfl | 2, _ => rfl | 3, _ => rfl | 4, _ => rfl | 5, _ => rfl | (j9 + 6), h9 => absurd h9 (by omega)) (Nat.le_of_ble_eq_true rfl) (Nat.le_of_ble_eq_true rfl) dX0_bodyOf_97 rfl (fun a35 a35M a35N => ?_)
    refine z_widen (n' := 1) (k' := 6) (Nat.le_refl _) (Nat.le_refl _) ?_
    have fr36 : xFr σ w (xL w) a35 := hX.fr a35M
    have fr37 : M a35 = none := ge0.no a35M
    obtain ⟨M8, eM8⟩ : ∃ z9 : zMap, zup M a35 (.inr (14, [.null, .null, .null, .null, .int (iI (0)), .null]) : va_E) = z9 := ⟨_, rfl⟩
    rw [eM8]
    have hX38 : xM θ σ w (xL w) M8 := eM8 ▸ hX.up fr36
    have ge39 : zGe M M8 := eM8 ▸ ge0.up fr37
    have o40 : M8 a35 = some (.inr (14, [.null, .null, .null, .null, .int (iI (0)), .null])) := eM8 ▸ zup_s
    refine z_dup C 101 dX0_bodyOf_100 rfl rfl ?_
    refine z_aload_n C 102 0 dX0_bodyOf_101 rfl rfl ?_
    refine z_aload_n C 103 1 dX0_bodyOf_102 rfl rfl ?_
    refine z_aload_n C 104 0 dX0_bodyOf_103 rfl rfl ?_
    refine z_iload_n C 105 3 dX0_bodyOf_104 rfl rfl ?_
    refine z_callV (As := [.int (iI (x))]) (rest := [.ref (σ 20 (m)), .ref (σ 0 (0)), .ref (a35), .ref (a35)]) C hκ hκl 108 (k0_isMember hX38 hs hw hT (x) r_x) dX0_bodyOf_105 q795 q797 qs7 q90 q798 znX0_isMember (Nat.le_of_ble_eq_true rfl) (Nat.le_of_ble_eq_true rfl) (Nat.le_of_ble_eq_true rfl) (Nat.le_of_ble_eq_true rfl) (zrec_P hX38.o) rfl rfl (Nat.le_of_ble_eq_true rfl) rfl (fun v9 Q9 h9 => ?_)
    obtain ⟨rfl, rfl⟩ := h9
    refine z_as (st' := [.int (iI (bI (mbB w (x)))), .ref (σ 20 (m)), .ref (σ 0 (0)), .ref (a35), .ref (a35)]) rfl rfl rfl ?_
    refine z_ifB_eq C 120 111 dX0_bodyOf_108 (by decide) rfl (fun c41 => ?_) (fun c41 => ?_)
    · skip
      have c41b : ¬ (0 ≤ (x) ∧ (x) < w 11 0) := of_decide_eq_false c41
      refine z_null C 121 dX0_bodyOf_120 rfl ?_
      refine z_iload C 123 4 dX0_bodyOf_121 rfl rfl ?_
      refine z_callI (As := [.ref (σ 0 (0)), .ref (σ 20 (m)), .null, .int (iI (y))]) (rest := [.ref (a35)]) C hκ hκl 126 (k14_init_14 hT (a35) (σ 0 (0)) (σ 20 (m)) (none) (y) r_y o40) dX0_bodyOf_123 q842 q843 q108 q844 znX14_init rfl (Nat.le_of_ble_eq_true rfl) (Nat.le_of_ble_eq_true rfl) (Nat.le_of_ble_eq_true rfl) (Nat.le_of_ble_eq_true rfl) rfl (Nat.le_of_ble_eq_true rfl) rfl (fun v9 Q9 h9 => ?_)
      obtain ⟨rfl, rfl⟩ := h9
      obtain ⟨M9, eM9⟩ : ∃ z9 : zMap, zup M8 a35 (.inr (14, [.ref ((σ 20 (m))), .ref ((σ 0 (0))), va_rf (none), .ref ((σ 0 (0))), .int (iI (y)), .ref ((σ 0 (0)))]) : va_E) = z9 := ⟨_, rfl⟩
      rw [eM9]
      have hX42 : xM θ σ w (xL w) M9 := eM9 ▸ hX38.up fr36
      have ge43 : zGe M M9 := eM9 ▸ ge39.up fr37
      have o44 : M9 a35 = some (.inr (14, [.ref ((σ 20 (m))), .ref ((σ 0 (0))), va_rf (none), .ref ((σ 0 (0))), .int (iI (y)), .ref ((σ 0 (0)))])) := eM9 ▸ zup_s
      refine z_as (st' := [.ref (a35)]) rfl rfl rfl ?_
      exact z_aret C dX0_bodyOf_126 (Or.inl ⟨_, rfl⟩) (Or.inr ⟨_, rfl⟩) (Nat.le_of_ble_eq_true rfl) (Nat.le_of_ble_eq_true rfl) ⟨M9, a35, rfl, rfl, ge43, fr37, o44.trans (congrArg some (xBoE_3 (by assumption) (by first | exact xf_y (by assumption) | exact xf_n (by assumption))).symm)⟩
    · skip
      have c41b : (0 ≤ (x) ∧ (x) < w 11 0) := of_decide_eq_true c41
      refine z_aload_n C 112 0 dX0_bodyOf_111 rfl rfl ?_
      refine z_getf C hκ (v := .ref (σ 2 (0))) 115 2 zk_X0 hX38.o (by decide) q329 (Or.inl rfl) rfl dX0_bodyOf_112 rfl ?_
      refine z_iload_n C 116 3 dX0_bodyOf_115 rfl rfl ?_
      refine x_aM C hκ 117 hX38 hs (by omega) (by omega) dX0_bodyOf_116 rfl ?_
      obtain ⟨f45a, f45b, f45c, f45d⟩ := hS.M (show 0 ≤ x by omega) (by omega)
      refine z_goto C 121 dX0_bodyOf_117 (by decide) ?_
      refine z_iload C 123 4 dX0_bodyOf_121 rfl rfl ?_
      refine z_callI (As := [.ref (σ 0 (0)), .ref (σ 20 (m)), .ref (σ 20 (x)), .int (iI (y))]) (rest := [.ref (a35)]) C hκ hκl 126 (k14_init_14 hT (a35) (σ 0 (0)) (σ 20 (m)) (some (σ 20 (x))) (y) r_y o40) dX0_bodyOf_123 q842 q843 q108 q844 znX14_init rfl (Nat.le_of_ble_eq_true rfl) (Nat.le_of_ble_eq_true rfl) (Nat.le_of_ble_eq_true rfl) (Nat.le_of_ble_eq_true rfl) rfl (Nat.le_of_ble_eq_true rfl) rfl (fun v9 Q9 h9 => ?_)
      obtain ⟨rfl, rfl⟩ := h9
      obtain ⟨M10, eM10⟩ : ∃ z9 : zMap, zup M8 a35 (.inr (14, [.ref ((σ 20 (m))), .ref ((σ 0 (0))), va_rf ((some (σ 20 (x)))), .ref ((σ 0 (0))), .int (iI (y)), .ref ((σ 0 (0)))]) : va_E) = z9 := ⟨_, rfl⟩
      rw [eM10]
      have hX46 : xM θ σ w (xL w) M10 := eM10 ▸ hX38.up fr36
      have ge47 : zGe M M10 := eM10 ▸ ge39.up fr37
      have o48 : M10 a35 = some (.inr (14, [.ref ((σ 20 (m))), .ref ((σ 0 (0))), va_rf ((some (σ 20 (x)))), .ref ((σ 0 (0))), .int (iI (y)), .ref ((σ 0 (0)))])) := eM10 ▸ zup_s
      refine z_as (st' := [.ref (a35)]) rfl rfl rfl ?_
      exact z_aret C dX0_bodyOf_126 (Or.inl ⟨_, rfl⟩) (Or.inr ⟨_, rfl⟩) (Nat.le_of_ble_eq_true rfl) (Nat.le_of_ble_eq_true rfl) ⟨M10, a35, rfl, rfl, ge47, fr37, o48.trans (congrArg some (xBoE_3 (by assumption) (by first | exact xf_y (by assumption) | exact xf_n (by assumption))).symm)⟩
  · skip
    refine z_tsIn C (k) 127 (off := 126) dX0_bodyOf_1 c2r (by omega) (by omega) (by rw [c2]; rfl) (by decide) ?_
    refine z_new (fs := [.null, .null, .int (iI (0)), .null]) C hκ 130 zk_X15 q857 q858 q109 (fun j9 h9 => match j9, h9 with | 0, _ => rfl | 1, _ => rfl | 2, _ => rfl | 3, _ => rfl | (j9 + 4), h9 => absurd h9 (by omega)) (Nat.le_of_ble_eq_true rfl) (Nat.le_of_ble_eq_true rfl) dX0_bodyOf_127 rfl (fun a49 a49M a49N => ?_)
    refine z_widen (n' := 1) (k' := 4) (Nat.le_refl _) (Nat.le_refl _) ?_
    have fr50 : xFr σ w (xL w) a49 := hX.fr a49M
    have fr51 : M a49 = none := ge0.no a49M
    obtain ⟨M11, eM11⟩ : ∃ z9 : zMap, zup M a49 (.inr (15, [.null, .null, .int (iI (0)), .null]) : va_E) = z9 := ⟨_, rfl⟩
    rw [eM11]
    have hX52 : xM θ σ w (xL w) M11 := eM11 ▸ hX.up fr50
    have ge53 : zGe M M11 := eM11 ▸ ge0.up fr51
    have o54 : M11 a49 = some (.inr (15, [.null, .null, .int (iI (0)), .null])) := eM11 ▸ zup_s
    refine z_dup C 131 dX0_bodyOf_130 rfl rfl ?_
    refine z_aload_n C 132 0 dX0_bodyOf_131 rfl rfl ?_
    refine z_aload_n C 133 1 dX0_bodyOf_132 rfl rfl ?_
    refine z_iload_n C 134 3 dX0_bodyOf_133 rfl rfl ?_
    refine z_callI (As := [.ref (σ 0 (0)), .ref (σ 20 (m)), .int (iI (x))]) (rest := [.ref (a49)]) C hκ hκl 137 (k15_init_15 hT (a49) (σ 0 (0)) (σ 20 (m)) (x) r_x o54) dX0_bodyOf_134 q859 q860 q109 q861 znX15_init rfl (Nat.le_of_ble_eq_true rfl) (Nat.le_of_ble_eq_true rfl) (Nat.le_of_ble_eq_true rfl) (Nat.le_of_ble_eq_true rfl) rfl (Nat.le_of_ble_eq_true rfl) rfl (fun v9 Q9 h9 => ?_)
    obtain ⟨rfl, rfl⟩ := h9
    obtain ⟨M12, eM12⟩ : ∃ z9 : zMap, zup M11 a49 (.inr (15, [.ref ((σ 20 (m))), .ref ((σ 0 (0))), .int (iI (x)), .ref ((σ 0 (0)))]) : va_E) = z9 := ⟨_, rfl⟩
    rw [eM12]
    have hX55 : xM θ σ w (xL w) M12 := eM12 ▸ hX52.up fr50
    have ge56 : zGe M M12 := eM12 ▸ ge53.up fr51
    have o57 : M12 a49 = some (.inr (15, [.ref ((σ 20 (m))), .ref ((σ 0 (0))), .int (iI (x)), .ref ((σ 0 (0)))])) := eM12 ▸ zup_s
    refine z_as (st' := [.ref (a49)]) rfl rfl rfl ?_
    exact z_aret C dX0_bodyOf_137 (Or.inl ⟨_, rfl⟩) (Or.inr ⟨_, rfl⟩) (Nat.le_of_ble_eq_true rfl) (Nat.le_of_ble_eq_true rfl) ⟨M12, a49, rfl, rfl, ge56, fr51, o57.trans (congrArg some (xBoE_4 (by assumption)).symm)⟩
  · skip
    refine z_tsIn C (k) 138 (off := 137) dX0_bodyOf_1 c2r (by omega) (by omega) (by rw [c2]; rfl) (by decide) ?_
    refine z_new (fs := [.null, .null, .null, .null]) C hκ 141 zk_X16 q872 q873 q110 (fun j9 h9 => match j9, h9 with | 0, _ => rfl | 1, _ => rfl | 2, _ => rfl | 3, _ => rfl | (j9 + 4), h9 => absurd h9 (by omega)) (Nat.le_of_ble_eq_true rfl) (Nat.le_of_ble_eq_true rfl) dX0_bodyOf_138 rfl (fun a58 a58M a58N => ?_)
    refine z_widen (n' := 1) (k' := 4) (Nat.le_refl _) (Nat.le_refl _) ?_
    have fr59 : xFr σ w (xL w) a58 := hX.fr a58M
    have fr60 : M a58 = none := ge0.no a58M
    obtain ⟨M13, eM13⟩ : ∃ z9 : zMap, zup M a58 (.inr (16, [.null, .null, .null, .null]) : va_E) = z9 := ⟨_, rfl⟩
    rw [eM13]
    have hX61 : xM θ σ w (xL w) M13 := eM13 ▸ hX.up fr59
    have ge62 : zGe M M13 := eM13 ▸ ge0.up fr60
    have o63 : M13 a58 = some (.inr (16, [.null, .null, .null, .null])) := eM13 ▸ zup_s
    refine z_dup C 142 dX0_bodyOf_141 rfl rfl ?_
    refine z_aload_n C 143 0 dX0_bodyOf_142 rfl rfl ?_
    refine z_aload_n C 144 1 dX0_bodyOf_143 rfl rfl ?_
    refine z_aload_n C 145 0 dX0_bodyOf_144 rfl rfl ?_
    refine z_iload_n C 146 3 dX0_bodyOf_145 rfl rfl ?_
    refine z_callV (As := [.int (iI (x))]) (rest := [.ref (σ 20 (m)), .ref (σ 0 (0)), .ref (a58), .ref (a58)]) C hκ hκl 149 (k0_isMember hX61 hs hw hT (x) r_x) dX0_bodyOf_146 q795 q797 qs7 q90 q798 znX0_isMember (Nat.le_of_ble_eq_true rfl) (Nat.le_of_ble_eq_true rfl) (Nat.le_of_ble_eq_true rfl) (Nat.le_of_ble_eq_true rfl) (zrec_P hX61.o) rfl rfl (Nat.le_of_ble_eq_true rfl) rfl (fun v9 Q9 h9 => ?_)
    obtain ⟨rfl, rfl⟩ := h9
    refine z_as (st' := [.int (iI (bI (mbB w (x)))), .ref (σ 20 (m)), .ref (σ 0 (0)), .ref (a58), .ref (a58)]) rfl rfl rfl ?_
    refine z_ifB_eq C 161 152 dX0_bodyOf_149 (by decide) rfl (fun c64 => ?_) (fun c64 => ?_)
    · skip
      have c64b : ¬ (0 ≤ (x) ∧ (x) < w 11 0) := of_decide_eq_false c64
      refine z_null C 162 dX0_bodyOf_161 rfl ?_
      refine z_callI (As := [.ref (σ 0 (0)), .ref (σ 20 (m)), .null]) (rest := [.ref (a58)]) C hκ hκl 165 (k16_init_16 hT (a58) (σ 0 (0)) (σ 20 (m)) (none) o63) dX0_bodyOf_162 q874 q875 q110 q876 znX16_init rfl (Nat.le_of_ble_eq_true rfl) (Nat.le_of_ble_eq_true rfl) (Nat.le_of_ble_eq_true rfl) (Nat.le_of_ble_eq_true rfl) rfl (Nat.le_of_ble_eq_true rfl) rfl (fun v9 Q9 h9 => ?_)
      obtain ⟨rfl, rfl⟩ := h9
      obtain ⟨M14, eM14⟩ : ∃ z9 : zMap, zup M13 a58 (.inr (16, [.ref ((σ 20 (m))), .ref ((σ 0 (0))), va_rf (none), .ref ((σ 0 (0)))]) : va_E) = z9 := ⟨_, rfl⟩
      rw [eM14]
      have hX65 : xM θ σ w (xL w) M14 := eM14 ▸ hX61.up fr59
      have ge66 : zGe M M14 := eM14 ▸ ge62.up fr60
      have o67 : M14 a58 = some (.inr (16, [.ref ((σ 20 (m))), .ref ((σ 0 (0))), va_rf (none), .ref ((σ 0 (0)))])) := eM14 ▸ zup_s
      refine z_as (st' := [.ref (a58)]) rfl rfl rfl ?_
      exact z_aret C dX0_bodyOf_165 (Or.inl ⟨_, rfl⟩) (Or.inr ⟨_, rfl⟩) (Nat.le_of_ble_eq_true rfl) (Nat.le_of_ble_eq_true rfl) ⟨M14, a58, rfl, rfl, ge66, fr60, o67.trans (congrArg some (xBoE_5 (by assumption) (by first | exact xf_y (by assumption) | exact xf_n (by assumption))).symm)⟩
    · skip
      have c64b : (0 ≤ (x) ∧ (x) < w 11 0) := of_decide_eq_true c64
      refine z_aload_n C 153 0 dX0_bodyOf_152 rfl rfl ?_
      refine z_getf C hκ (v := .ref (σ 2 (0))) 156 2 zk_X0 hX61.o (by decide) q329 (Or.inl rfl) rfl dX0_bodyOf_153 rfl ?_
      refine z_iload_n C 157 3 dX0_bodyOf_156 rfl rfl ?_
      refine x_aM C hκ 158 hX61 hs (by omega) (by omega) dX0_bodyOf_157 rfl ?_
      obtain ⟨f68a, f68b, f68c, f68d⟩ := hS.M (show 0 ≤ x by omega) (by omega)
      refine z_goto C 162 dX0_bodyOf_158 (by decide) ?_
      refine z_callI (As := [.ref (σ 0 (0)), .ref (σ 20 (m)), .ref (σ 20 (x))]) (rest := [.ref (a58)]) C hκ hκl 165 (k16_init_16 hT (a58) (σ 0 (0)) (σ 20 (m)) (some (σ 20 (x))) o63) dX0_bodyOf_162 q874 q875 q110 q876 znX16_init rfl (Nat.le_of_ble_eq_true rfl) (Nat.le_of_ble_eq_true rfl) (Nat.le_of_ble_eq_true rfl) (Nat.le_of_ble_eq_true rfl) rfl (Nat.le_of_ble_eq_true rfl) rfl (fun v9 Q9 h9 => ?_)
      obtain ⟨rfl, rfl⟩ := h9
      obtain ⟨M15, eM15⟩ : ∃ z9 : zMap, zup M13 a58 (.inr (16, [.ref ((σ 20 (m))), .ref ((σ 0 (0))), va_rf ((some (σ 20 (x)))), .ref ((σ 0 (0)))]) : va_E) = z9 := ⟨_, rfl⟩
      rw [eM15]
      have hX69 : xM θ σ w (xL w) M15 := eM15 ▸ hX61.up fr59
      have ge70 : zGe M M15 := eM15 ▸ ge62.up fr60
      have o71 : M15 a58 = some (.inr (16, [.ref ((σ 20 (m))), .ref ((σ 0 (0))), va_rf ((some (σ 20 (x)))), .ref ((σ 0 (0)))])) := eM15 ▸ zup_s
      refine z_as (st' := [.ref (a58)]) rfl rfl rfl ?_
      exact z_aret C dX0_bodyOf_165 (Or.inl ⟨_, rfl⟩) (Or.inr ⟨_, rfl⟩) (Nat.le_of_ble_eq_true rfl) (Nat.le_of_ble_eq_true rfl) ⟨M15, a58, rfl, rfl, ge70, fr60, o71.trans (congrArg some (xBoE_5 (by assumption) (by first | exact xf_y (by assumption) | exact xf_n (by assumption))).symm)⟩
  · skip
    refine z_tsIn C (k) 166 (off := 165) dX0_bodyOf_1 c2r (by omega) (by omega) (by rw [c2]; rfl) (by decide) ?_
    refine z_new (fs := [.null, .null, .int (iI (0)), .null, .int (iI (0)), .null]) C hκ 169 zk_X17 q889 q890 q111 (fun j9 h9 => match j9, h9 with | 0, _ => rfl | 1, _ => rfl | 2, _ => rfl | 3, _ => rfl | 4, _ => rfl | 5, _ => rfl | (j9 + 6), h9 => absurd h9 (by omega)) (Nat.le_of_ble_eq_true rfl) (Nat.le_of_ble_eq_true rfl) dX0_bodyOf_166 rfl (fun a72 a72M a72N => ?_)
    refine z_widen (n' := 1) (k' := 6) (Nat.le_refl _) (Nat.le_refl _) ?_
    have fr73 : xFr σ w (xL w) a72 := hX.fr a72M
    have fr74 : M a72 = none := ge0.no a72M
    obtain ⟨M16, eM16⟩ : ∃ z9 : zMap, zup M a72 (.inr (17, [.null, .null, .int (iI (0)), .null, .int (iI (0)), .null]) : va_E) = z9 := ⟨_, rfl⟩
    rw [eM16]
    have hX75 : xM θ σ w (xL w) M16 := eM16 ▸ hX.up fr73
    have ge76 : zGe M M16 := eM16 ▸ ge0.up fr74
    have o77 : M16 a72 = some (.inr (17, [.null, .null, .int (iI (0)), .null, .int (iI (0)), .null])) := eM16 ▸ zup_s
    refine z_dup C 170 dX0_bodyOf_169 rfl rfl ?_
    refine z_aload_n C 171 0 dX0_bodyOf_170 rfl rfl ?_
    refine z_aload_n C 172 1 dX0_bodyOf_171 rfl rfl ?_
    refine z_iload_n C 173 3 dX0_bodyOf_172 rfl rfl ?_
    refine z_iload C 175 4 dX0_bodyOf_173 rfl rfl ?_
    refine z_callI (As := [.ref (σ 0 (0)), .ref (σ 20 (m)), .int (iI (x)), .int (iI (y))]) (rest := [.ref (a72)]) C hκ hκl 178 (k17_init_17 hT (a72) (σ 0 (0)) (σ 20 (m)) (x) (y) r_x r_y o77) dX0_bodyOf_175 q891 q892 q111 q893 znX17_init rfl (Nat.le_of_ble_eq_true rfl) (Nat.le_of_ble_eq_true rfl) (Nat.le_of_ble_eq_true rfl) (Nat.le_of_ble_eq_true rfl) rfl (Nat.le_of_ble_eq_true rfl) rfl (fun v9 Q9 h9 => ?_)
    obtain ⟨rfl, rfl⟩ := h9
    obtain ⟨M17, eM17⟩ : ∃ z9 : zMap, zup M16 a72 (.inr (17, [.ref ((σ 20 (m))), .ref ((σ 0 (0))), .int (iI (x)), .ref ((σ 0 (0))), .int (iI (y)), .ref ((σ 0 (0)))]) : va_E) = z9 := ⟨_, rfl⟩
    rw [eM17]
    have hX78 : xM θ σ w (xL w) M17 := eM17 ▸ hX75.up fr73
    have ge79 : zGe M M17 := eM17 ▸ ge76.up fr74
    have o80 : M17 a72 = some (.inr (17, [.ref ((σ 20 (m))), .ref ((σ 0 (0))), .int (iI (x)), .ref ((σ 0 (0))), .int (iI (y)), .ref ((σ 0 (0)))])) := eM17 ▸ zup_s
    refine z_as (st' := [.ref (a72)]) rfl rfl rfl ?_
    exact z_aret C dX0_bodyOf_178 (Or.inl ⟨_, rfl⟩) (Or.inr ⟨_, rfl⟩) (Nat.le_of_ble_eq_true rfl) (Nat.le_of_ble_eq_true rfl) ⟨M17, a72, rfl, rfl, ge79, fr74, o80.trans (congrArg some (xBoE_6 (by assumption)).symm)⟩
  · skip
    refine z_tsIn C (k) 179 (off := 178) dX0_bodyOf_1 c2r (by omega) (by omega) (by rw [c2]; rfl) (by decide) ?_
    refine z_aload_n C 180 1 dX0_bodyOf_179 rfl rfl ?_
    refine z_getf C hκ (v := .ref (σ 10 (w 13 (m)))) 183 1 zk_X9 (hX.mem (by omega) (by omega)) (by decide) q657 (Or.inl rfl) rfl dX0_bodyOf_180 rfl ?_
    obtain ⟨f81a, f81b, f81c, f81d, f81e, f81f, f81g, f81h⟩ := hS.T (show 0 ≤ w 13 (m) by omega) (by omega)
    obtain ⟨f81i, f81j, f81k, f81l⟩ := hs.ty (show 0 ≤ w 13 (m) by omega) (by omega)
    refine xv_parent (rest := []) C hκ hκl hX hs hw hT (w 13 (m))   ⟨(by omega), (by omega)⟩  186 dX0_bodyOf_183 q520 (Nat.le_of_ble_eq_true rfl) (Nat.le_of_ble_eq_true rfl) (Nat.le_of_ble_eq_true rfl) (Nat.le_of_ble_eq_true rfl) (Nat.le_of_ble_eq_true rfl) rfl ?_
    refine z_as (st' := [va_rf (xo σ 10 (w 2 (w 13 (m))))]) rfl rfl rfl ?_
    refine z_astoreq (lv' := [(0, .ref (σ 0 (0))), (1, .ref (σ 20 (m))), (2, .int (iI (k))), (3, .int (iI (x))), (4, .int (iI (y))), (5, va_rf (xo σ 10 (w 2 (w 13 (m)))))]) C 188 [1, 2, 3, 4, 5, 0] dX0_bodyOf_186 (by decide) rfl rfl ?_
    refine z_new (fs := [.null, .null, .null, .null, .null]) C hκ 191 zk_X18 q906 q907 q112 (fun j9 h9 => match j9, h9 with | 0, _ => rfl | 1, _ => rfl | 2, _ => rfl | 3, _ => rfl | 4, _ => rfl | (j9 + 5), h9 => absurd h9 (by omega)) (Nat.le_of_ble_eq_true rfl) (Nat.le_of_ble_eq_true rfl) dX0_bodyOf_188 rfl (fun a82 a82M a82N => ?_)
    refine z_widen (n' := 1) (k' := 5) (Nat.le_refl _) (Nat.le_refl _) ?_
    have fr83 : xFr σ w (xL w) a82 := hX.fr a82M
    have fr84 : M a82 = none := ge0.no a82M
    obtain ⟨M18, eM18⟩ : ∃ z9 : zMap, zup M a82 (.inr (18, [.null, .null, .null, .null, .null]) : va_E) = z9 := ⟨_, rfl⟩
    rw [eM18]
    have hX85 : xM θ σ w (xL w) M18 := eM18 ▸ hX.up fr83
    have ge86 : zGe M M18 := eM18 ▸ ge0.up fr84
    have o87 : M18 a82 = some (.inr (18, [.null, .null, .null, .null, .null])) := eM18 ▸ zup_s
    refine z_dup C 192 dX0_bodyOf_191 rfl rfl ?_
    refine z_aload_n C 193 0 dX0_bodyOf_192 rfl rfl ?_
    refine z_aload_n C 194 1 dX0_bodyOf_193 rfl rfl ?_
    refine z_aloadq C 196 5 dX0_bodyOf_194 rfl rfl ?_
    rcases Int.lt_or_le (w 2 (w 13 (m))) 0 with n88 | n88
    · skip
      rw [xo_n n88]
      refine z_as (st' := [.null, .ref (σ 20 (m)), .ref (σ 0 (0)), .ref (a82), .ref (a82)]) (lv' := [(0, .ref (σ 0 (0))), (1, .ref (σ 20 (m))), (2, .int (iI (k))), (3, .int (iI (x))), (4, .int (iI (y))), (5, .null)]) rfl rfl rfl ?_
      refine z_ifnonnullN C 199 dX0_bodyOf_196 rfl ?_
      refine z_null C 200 dX0_bodyOf_199 rfl ?_
      refine z_goto C 220 dX0_bodyOf_200 (by decide) ?_
      refine z_callI (As := [.ref (σ 0 (0)), .ref (σ 20 (m)), .null]) (rest := [.ref (a82)]) C hκ hκl 223 (k18_init_18 hT (a82) (σ 0 (0)) (σ 20 (m)) (none) o87) dX0_bodyOf_220 q983 q984 q112 q985 znX18_init rfl (Nat.le_of_ble_eq_true rfl) (Nat.le_of_ble_eq_true rfl) (Nat.le_of_ble_eq_true rfl) (Nat.le_of_ble_eq_true rfl) rfl (Nat.le_of_ble_eq_true rfl) rfl (fun v9 Q9 h9 => ?_)
      obtain ⟨rfl, rfl⟩ := h9
      obtain ⟨M19, eM19⟩ : ∃ z9 : zMap, zup M18 a82 (.inr (18, [.ref ((σ 20 (m))), .ref ((σ 0 (0))), va_rf (none), .ref ((σ 0 (0))), .ref ((σ 0 (0)))]) : va_E) = z9 := ⟨_, rfl⟩
      rw [eM19]
      have hX89 : xM θ σ w (xL w) M19 := eM19 ▸ hX85.up fr83
      have ge90 : zGe M M19 := eM19 ▸ ge86.up fr84
      have o91 : M19 a82 = some (.inr (18, [.ref ((σ 20 (m))), .ref ((σ 0 (0))), va_rf (none), .ref ((σ 0 (0))), .ref ((σ 0 (0)))])) := eM19 ▸ zup_s
      refine z_as (st' := [.ref (a82)]) rfl rfl rfl ?_
      exact z_aret C dX0_bodyOf_223 (Or.inl ⟨_, rfl⟩) (Or.inr ⟨_, rfl⟩) (Nat.le_of_ble_eq_true rfl) (Nat.le_of_ble_eq_true rfl) ⟨M19, a82, rfl, rfl, ge90, fr84, o91.trans (congrArg some (xBoE_7 (by assumption) (by first | exact gu_n (by assumption) (by omega) | exact gu_y hS (by assumption) (by omega))).symm)⟩
    · skip
      rw [xo_y n88]
      refine z_as (st' := [.ref (σ 10 (w 2 (w 13 (m)))), .ref (σ 20 (m)), .ref (σ 0 (0)), .ref (a82), .ref (a82)]) (lv' := [(0, .ref (σ 0 (0))), (1, .ref (σ 20 (m))), (2, .int (iI (k))), (3, .int (iI (x))), (4, .int (iI (y))), (5, .ref (σ 10 (w 2 (w 13 (m)))))]) rfl rfl rfl ?_
      refine z_ifnonnull C 203 dX0_bodyOf_196 (by decide) ?_
      refine z_new (fs := [.null, .int (iI (0)), .null, .null, .null, .null]) C hκ 206 zk_X20 q908 q909 q114 (fun j9 h9 => match j9, h9 with | 0, _ => rfl | 1, _ => rfl | 2, _ => rfl | 3, _ => rfl | 4, _ => rfl | 5, _ => rfl | (j9 + 6), h9 => absurd h9 (by omega)) (Nat.le_of_ble_eq_true rfl) (Nat.le_of_ble_eq_true rfl) dX0_bodyOf_203 rfl (fun a92 a92M a92N => ?_)
      refine z_widen (n' := 2) (k' := 11) (Nat.le_refl _) (Nat.le_refl _) ?_
      have ne93 : a82 ≠ a92 := fun z9 => by have z8 := o87; rw [z9, a92M] at z8; cases z8
      have fr94 : xFr σ w (xL w) a92 := hX85.fr a92M
      have fr95 : M a92 = none := ge86.no a92M
      obtain ⟨M20, eM20⟩ : ∃ z9 : zMap, zup M18 a92 (.inr (20, [.null, .int (iI (0)), .null, .null, .null, .null]) : va_E) = z9 := ⟨_, rfl⟩
      rw [eM20]
      have o96 : M20 a82 = some (.inr (18, [.null, .null, .null, .null, .null])) := eM20 ▸ (zup_n ne93).trans o87
      have hX97 : xM θ σ w (xL w) M20 := eM20 ▸ hX85.up fr94
      have ge98 : zGe M M20 := eM20 ▸ ge86.up fr95
      have o99 : M20 a92 = some (.inr (20, [.null, .int (iI (0)), .null, .null, .null, .null])) := eM20 ▸ zup_s
      refine z_dup C 207 dX0_bodyOf_206 rfl rfl ?_
      refine z_aload_n C 208 0 dX0_bodyOf_207 rfl rfl ?_
      refine z_iconst C 209 dX0_bodyOf_208 rfl ?_
      refine z_aload_n C 210 1 dX0_bodyOf_209 rfl rfl ?_
      refine z_aload C 212 5 dX0_bodyOf_210 rfl rfl ?_
      refine z_callI (As := [.ref (σ 0 (0)), .int (iI (2)), .ref (σ 20 (m)), .ref (σ 10 (w 2 (w 13 (m))))]) (rest := [.ref (a92), .ref (σ 20 (m)), .ref (σ 0 (0)), .ref (a82), .ref (a82)]) C hκ hκl 215 (k20_init_20 hT (a92) (σ 0 (0)) (2) (σ 20 (m)) (σ 10 (w 2 (w 13 (m)))) ⟨by decide, by decide⟩ o99) dX0_bodyOf_212 q910 q911 q114 q912 znX20_init rfl (Nat.le_of_ble_eq_true rfl) (Nat.le_of_ble_eq_true rfl) (Nat.le_of_ble_eq_true rfl) (Nat.le_of_ble_eq_true rfl) rfl (Nat.le_of_ble_eq_true rfl) rfl (fun v9 Q9 h9 => ?_)
      obtain ⟨rfl, Mr100, mtr100, rfl, fxr100, oar100, hmtr100, gmtr100, imtr100⟩ := h9
      have ne101 : a82 ≠ mtr100 := fun z9 => by have z8 := o96; rw [z9, gmtr100] at z8; cases z8
      have ne102 : a92 ≠ mtr100 := fun z9 => by have z8 := o99; rw [z9, gmtr100] at z8; cases z8
      have fr103 : xFr σ w (xL w) mtr100 := hX97.fr gmtr100
      have fr104 : M mtr100 = none := ge98.no gmtr100
      have o105 : Mr100 a82 = some (.inr (18, [.null, .null, .null, .null, .null])) := fxr100 _ _ o96 ne93
      have hX106 : xM θ σ w (xL w) Mr100 := hX97.fx fxr100 fr94
      have ge107 : zGe M Mr100 := ge98.fx fxr100 fr95
      refine z_as (Pic' := zP θ Mr100 N) (st' := [.ref (a92), .ref (σ 20 (m)), .ref (σ 0 (0)), .ref (a82), .ref (a82)]) rfl rfl rfl ?_
      refine z_widen (n' := 3) (k' := 71) (Nat.le_refl _) (Nat.le_refl _) ?_
      refine z_aload C 217 5 dX0_bodyOf_215 rfl rfl ?_
      refine z_as (Pic' := zP θ (zup Mr100 mtr100 (metE θ (fun _ => false))) N) (congrArg (fun z9 => zP θ z9 N) (zup_id hmtr100).symm) rfl rfl ?_
      refine z_callU (owner := RX19) (As := [.ref (σ 10 (w 2 (w 13 (m))))]) (rest := [.ref (σ 20 (m)), .ref (σ 0 (0)), .ref (a82), .ref (a82)]) C hκ hκl 220 (xSr_all_20 hX106 hs hw hT a92 mtr100 2 m (w 2 (w 13 m)) ⟨by decide, by decide⟩ oar100 ⟨by omega, by omega⟩ ⟨by omega, by omega⟩ ne102 fr103 hUq 60 (w 2 (w 13 (m))) (fun _ => false) ⟨by omega, by omega⟩ (by omega)) dX0_bodyOf_217 q940 q941 q943 q944 q113 q945 rfl ⟨by decide, by decide, rfl⟩ (Nat.le_of_ble_eq_true rfl) (Nat.le_of_ble_eq_true rfl) (Nat.le_of_ble_eq_true rfl) (Nat.le_of_ble_eq_true rfl) (zrec_P (show zup Mr100 mtr100 _ a92 = _ from (zup_n ne102).trans oar100)) rfl rfl (Nat.le_of_ble_eq_true rfl) rfl (fun v9 Q9 h9 => ?_)
      obtain ⟨rfl, rfl⟩ := h9
      obtain ⟨M21, eM21⟩ : ∃ z9 : zMap, zup Mr100 mtr100 (metE θ ((sF (xmO w (w 2 (w 13 (m))) (m) 2) (xCh w 2 true) 60 (w 2 (w 13 (m))) (fun _ => false)).2) : va_E) = z9 := ⟨_, rfl⟩
      rw [eM21]
      have o108 : M21 a82 = some (.inr (18, [.null, .null, .null, .null, .null])) := eM21 ▸ (zup_n ne101).trans o105
      have o109 : M21 a92 = some (.inr (20, [.ref (mtr100), .int (iI (2)), .ref ((σ 0 (0))), .ref ((σ 20 (m))), .ref ((σ 10 (w 2 (w 13 (m))))), .ref ((σ 0 (0)))])) := eM21 ▸ (zup_n ne102).trans oar100
      have hX110 : xM θ σ w (xL w) M21 := eM21 ▸ hX106.up fr103
      have ge111 : zGe M M21 := eM21 ▸ ge107.up fr104
      have o112 : M21 mtr100 = some (metE θ ((sF (xmO w (w 2 (w 13 (m))) (m) 2) (xCh w 2 true) 60 (w 2 (w 13 (m))) (fun _ => false)).2)) := eM21 ▸ zup_s
      have hsr9 := sF_r (o := (xmO w (w 2 (w 13 (m))) (m) 2)) (ch := (xCh w 2 true)) (N := w 11 0) (fun u => xmO_r (by omega)) (by omega) 60 (w 2 (w 13 (m))) (fun _ => false)
      refine z_as (st' := [va_rf (xo σ 20 ((sF (xmO w (w 2 (w 13 (m))) (m) 2) (xCh w 2 true) 60 (w 2 (w 13 (m))) (fun _ => false)).1)), .ref (σ 20 (m)), .ref (σ 0 (0)), .ref (a82), .ref (a82)]) rfl rfl rfl ?_
      refine z_callI (As := [.ref (σ 0 (0)), .ref (σ 20 (m)), va_rf (xo σ 20 ((sF (xmO w (w 2 (w 13 (m))) (m) 2) (xCh w 2 true) 60 (w 2 (w 13 (m))) (fun _ => false)).1))]) (rest := [.ref (a82)]) C hκ hκl 223 (k18_init_18 hT (a82) (σ 0 (0)) (σ 20 (m)) (xo σ 20 ((sF (xmO w (w 2 (w 13 (m))) (m) 2) (xCh w 2 true) 60 (w 2 (w 13 (m))) (fun _ => false)).1)) o108) dX0_bodyOf_220 q983 q984 q112 q985 znX18_init rfl (Nat.le_of_ble_eq_true rfl) (Nat.le_of_ble_eq_true rfl) (Nat.le_of_ble_eq_true rfl) (Nat.le_of_ble_eq_true rfl) rfl (Nat.le_of_ble_eq_true rfl) rfl (fun v9 Q9 h9 => ?_)
      obtain ⟨rfl, rfl⟩ := h9
      obtain ⟨M22, eM22⟩ : ∃ z9 : zMap, zup M21 a82 (.inr (18, [.ref ((σ 20 (m))), .ref ((σ 0 (0))), va_rf ((xo σ 20 ((sF (xmO w (w 2 (w 13 (m))) (m) 2) (xCh w 2 true) 60 (w 2 (w 13 (m))) (fun _ => false)).1))), .ref ((σ 0 (0))), .ref ((σ 0 (0)))]) : va_E) = z9 := ⟨_, rfl⟩
      rw [eM22]
      have o113 : M22 a92 = some (.inr (20, [.ref (mtr100), .int (iI (2)), .ref ((σ 0 (0))), .ref ((σ 20 (m))), .ref ((σ 10 (w 2 (w 13 (m))))), .ref ((σ 0 (0)))])) := eM22 ▸ (zup_n (fun z9 => ne93 z9.symm)).trans o109
      have o114 : M22 mtr100 = some (metE θ ((sF (xmO w (w 2 (w 13 (m))) (m) 2) (xCh w 2 true) 60 (w 2 (w 13 (m))) (fun _ => false)).2)) := eM22 ▸ (zup_n (fun z9 => ne101 z9.symm)).trans o112
      have hX115 : xM θ σ w (xL w) M22 := eM22 ▸ hX110.up fr83
      have ge116 : zGe M M22 := eM22 ▸ ge111.up fr84
      have o117 : M22 a82 = some (.inr (18, [.ref ((σ 20 (m))), .ref ((σ 0 (0))), va_rf ((xo σ 20 ((sF (xmO w (w 2 (w 13 (m))) (m) 2) (xCh w 2 true) 60 (w 2 (w 13 (m))) (fun _ => false)).1))), .ref ((σ 0 (0))), .ref ((σ 0 (0)))])) := eM22 ▸ zup_s
      refine z_as (st' := [.ref (a82)]) rfl rfl rfl ?_
      exact z_aret C dX0_bodyOf_223 (Or.inl ⟨_, rfl⟩) (Or.inr ⟨_, rfl⟩) (Nat.le_of_ble_eq_true rfl) (Nat.le_of_ble_eq_true rfl) ⟨M22, a82, rfl, rfl, ge116, fr84, o117.trans (congrArg some (xBoE_7 (by assumption) (by first | exact gu_n (by assumption) (by omega) | exact gu_y hS (by assumption) (by omega))).symm)⟩
  · skip
    refine z_tsOut C 224 dX0_bodyOf_1 c2r c2 (by decide) ?_
    refine z_new (fs := [.null, .null, .int (iI (0)), .null, .int (iI (0)), .null]) C hκ 227 zk_X21 q995 q996 q115 (fun j9 h9 => match j9, h9 with | 0, _ => rfl | 1, _ => rfl | 2, _ => rfl | 3, _ => rfl | 4, _ => rfl | 5, _ => rfl | (j9 + 6), h9 => absurd h9 (by omega)) (Nat.le_of_ble_eq_true rfl) (Nat.le_of_ble_eq_true rfl) dX0_bodyOf_224 rfl (fun a118 a118M a118N => ?_)
    refine z_widen (n' := 1) (k' := 6) (Nat.le_refl _) (Nat.le_refl _) ?_
    have fr119 : xFr σ w (xL w) a118 := hX.fr a118M
    have fr120 : M a118 = none := ge0.no a118M
    obtain ⟨M23, eM23⟩ : ∃ z9 : zMap, zup M a118 (.inr (21, [.null, .null, .int (iI (0)), .null, .int (iI (0)), .null]) : va_E) = z9 := ⟨_, rfl⟩
    rw [eM23]
    have hX121 : xM θ σ w (xL w) M23 := eM23 ▸ hX.up fr119
    have ge122 : zGe M M23 := eM23 ▸ ge0.up fr120
    have o123 : M23 a118 = some (.inr (21, [.null, .null, .int (iI (0)), .null, .int (iI (0)), .null])) := eM23 ▸ zup_s
    refine z_dup C 228 dX0_bodyOf_227 rfl rfl ?_
    refine z_aload_n C 229 0 dX0_bodyOf_228 rfl rfl ?_
    refine z_aload_n C 230 1 dX0_bodyOf_229 rfl rfl ?_
    refine z_iload_n C 231 3 dX0_bodyOf_230 rfl rfl ?_
    refine z_iload C 233 4 dX0_bodyOf_231 rfl rfl ?_
    refine z_callI (As := [.ref (σ 0 (0)), .ref (σ 20 (m)), .int (iI (x)), .int (iI (y))]) (rest := [.ref (a118)]) C hκ hκl 236 (k21_init_21 hT (a118) (σ 0 (0)) (σ 20 (m)) (x) (y) r_x r_y o123) dX0_bodyOf_233 q997 q998 q115 q999 znX21_init rfl (Nat.le_of_ble_eq_true rfl) (Nat.le_of_ble_eq_true rfl) (Nat.le_of_ble_eq_true rfl) (Nat.le_of_ble_eq_true rfl) rfl (Nat.le_of_ble_eq_true rfl) rfl (fun v9 Q9 h9 => ?_)
    obtain ⟨rfl, rfl⟩ := h9
    obtain ⟨M24, eM24⟩ : ∃ z9 : zMap, zup M23 a118 (.inr (21, [.ref ((σ 20 (m))), .ref ((σ 0 (0))), .int (iI (x)), .ref ((σ 0 (0))), .int (iI (y)), .ref ((σ 0 (0)))]) : va_E) = z9 := ⟨_, rfl⟩
    rw [eM24]
    have hX124 : xM θ σ w (xL w) M24 := eM24 ▸ hX121.up fr119
    have ge125 : zGe M M24 := eM24 ▸ ge122.up fr120
    have o126 : M24 a118 = some (.inr (21, [.ref ((σ 20 (m))), .ref ((σ 0 (0))), .int (iI (x)), .ref ((σ 0 (0))), .int (iI (y)), .ref ((σ 0 (0)))])) := eM24 ▸ zup_s
    refine z_as (st' := [.ref (a118)]) rfl rfl rfl ?_
    exact z_aret C dX0_bodyOf_236 (Or.inl ⟨_, rfl⟩) (Or.inr ⟨_, rfl⟩) (Nat.le_of_ble_eq_true rfl) (Nat.le_of_ble_eq_true rfl) ⟨M24, a118, rfl, rfl, ge125, fr120, o126.trans (congrArg some (xBoE_8 hk.1 (by assumption)).symm)⟩
