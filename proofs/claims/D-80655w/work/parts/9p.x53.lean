/-! ===== what a body gives ===== -/
/-- of which kind, with which bits, which thing a result is: r the method's type, t that of what came -/
def gvK (r t k : Int) : Int := if r = -1 ∨ t = -1 then clK r else wtK k r
def gvB (r t k b : Int) : Int := if r = -1 ∨ t = -1 then 0 else wtB k b r
def gvT (r t : Int) (u : Option Nat) : Option Nat := if r = -1 ∨ t = -1 then none else u
theorem gv_c {r t k b : Int} {u : Option Nat} (h : r = -1 ∨ t = -1) : gvK r t k = clK r ∧ gvB r t k b = 0 ∧ gvT r t u = none := ⟨if_pos h, if_pos h, if_pos h⟩
theorem gv_w {r t k b : Int} {u : Option Nat} (h : ¬ (r = -1 ∨ t = -1)) : gvK r t k = wtK k r ∧ gvB r t k b = wtB k b r ∧ gvT r t u = u := ⟨if_neg h, if_neg h, if_neg h⟩

set_option maxRecDepth 100000 in
theorem k10_gives_12 {l : Launch} {θ : zTh} {σ : xA} {w : mW} {M N : zMap} (hX : xM θ σ w (xL w) M) (hs : xS w) (hw : mWF w) (hT : zTb θ) (b : Nat) (m : Int) (x : Int) (fr : Nat) (sf : Option Nat) (ar : Nat) (out : Nat) (dp : Int) (k1 : Int) (b1 : Int) (t1 : Option Nat) (vc : Nat) (k0 : Int) (b0 : Int) (t0 : Option Nat)  (hb : M b = some (.inr (12, [.ref (σ 20 (m)), .ref (σ 0 (0)), .int (iI (x)), .ref (σ 0 (0))]))) (hm : 0 ≤ m ∧ m < w 11 0) (r_x : inR x) (r_dp : inR dp) (hFr : M fr = some (.inr (26, [va_rf (sf), .ref (ar), .ref (out), .int (iI (dp))]))) (hO : M out = some (.inr (6, [.int (iI (k1)), .long (lI (b1)), va_rf (t1)]))) (hOf : xFr σ w (xL w) out) (hV9 : M vc = some (.inr (6, [.int (iI (k0)), .long (lI (b0)), va_rf (t0)]))) (hne : out ≠ vc) (hk : nmOk k0 b0) (r_k0 : inR k0) : ZM θ l yX10_gives cX10_gives 3 none ⟨4, 0, 0, 103⟩ [.ref (b), .ref (fr), .ref (vc)] (zP θ M N) (zFn none (zP θ (zup M out (.inr (6, [.int (iI (gvK (w 17 m) (xpI w m x) k0)), .long (lI (gvB (w 17 m) (xpI w m x) k0 b0)), va_rf (gvT (w 17 m) (xpI w m x) t0)]))) N)) := by
  refine z_start (own := RX10) (nm := "gives") pnX10 rfl rfl (Nat.le_of_ble_eq_true rfl) ?_
  intro κ hκ hκl C
  change Z κ (zP θ M N) 0 0 0 [(0, .ref (b)), (1, .ref (fr)), (2, .ref (vc))] []
  have hS := hs.S
  have hB := hS.B
  obtain ⟨hB1, hB2, hB3, hB4, hB5, hB6⟩ := hS.B
  have hC := hS.C
  obtain ⟨h81, h82⟩ := hs.r8
  obtain ⟨f1a, f1b, f1c, f1d⟩ := hS.M (show 0 ≤ m by omega) (by omega)
  have ne2 : b ≠ out := fun z9 => by have z8 := hb; rw [z9, hO] at z8; cases z8
  have ne3 : fr ≠ out := fun z9 => by have z8 := hFr; rw [z9, hO] at z8; cases z8
  have k17 : -1 ≤ w 17 m := by omega
  have hpx := xpI_r hS (i := x) hm.1 hm.2
  refine z_aload_n C 1 0 dX10_gives_0 rfl rfl ?_
  refine z_getf C hκ (v := .ref (σ 20 (m))) 4 0 zk_X12 hb (by decide) q772 (Or.inl rfl) rfl dX10_gives_1 rfl ?_
  refine z_getf C hκ (v := va_rf (xo σ 10 (w 17 (m)))) 7 5 zk_X9 (hX.mem (by omega) (by omega)) (by decide) q671 (Or.inl rfl) rfl dX10_gives_4 rfl ?_
  rcases Int.lt_or_le (w 17 (m)) 0 with n4 | n4
  · skip
    rw [xo_n n4]
    refine z_as (st' := [.null]) (lv' := [(0, .ref (b)), (1, .ref (fr)), (2, .ref (vc))]) rfl rfl rfl ?_
    refine z_ifnullN C 17 dX10_gives_7 (by decide) ?_
    refine z_aload_n C 18 1 dX10_gives_17 rfl rfl ?_
    refine z_getf C hκ (v := .ref (out)) 21 2 zk_X26 hFr (by decide) q1750 (Or.inl rfl) rfl dX10_gives_18 rfl ?_
    refine z_aload_n C 22 0 dX10_gives_21 rfl rfl ?_
    refine z_getf C hκ (v := .ref (σ 20 (m))) 25 0 zk_X12 hb (by decide) q772 (Or.inl rfl) rfl dX10_gives_22 rfl ?_
    refine z_getf C hκ (v := va_rf (xo σ 10 (w 17 (m)))) 28 5 zk_X9 (hX.mem (by omega) (by omega)) (by decide) q671 (Or.inl rfl) rfl dX10_gives_25 rfl ?_
    refine z_callV (As := [va_rf (xo σ 10 (w 17 (m)))]) (rest := []) C hκ hκl 31 (k6_clear hX hs hw hT (out) (k1) (b1) (t1) (w 17 (m)) hO ⟨by omega, by omega⟩) dX10_gives_28 q1788 q1789 q1790 q96 q1791 znX6_clear (Nat.le_of_ble_eq_true rfl) (Nat.le_of_ble_eq_true rfl) (Nat.le_of_ble_eq_true rfl) (Nat.le_of_ble_eq_true rfl) (zrec_P hO) rfl rfl (Nat.le_of_ble_eq_true rfl) rfl (fun v9 Q9 h9 => ?_)
    obtain ⟨rfl, rfl⟩ := h9
    obtain ⟨M1, eM1⟩ : ∃ z9 : zMap, zup M out (.inr (6, [.int (iI (clK (w 17 (m)))), .long (lI (0)), .null]) : va_E) = z9 := ⟨_, rfl⟩
    rw [eM1]
    have o5 : M1 b = some (.inr (12, [.ref (σ 20 (m)), .ref (σ 0 (0)), .int (iI (x)), .ref (σ 0 (0))])) := eM1 ▸ (zup_n ne2).trans hb
    have o6 : M1 fr = some (.inr (26, [va_rf (sf), .ref (ar), .ref (out), .int (iI (dp))])) := eM1 ▸ (zup_n ne3).trans hFr
    have o7 : M1 vc = some (.inr (6, [.int (iI (k0)), .long (lI (b0)), va_rf (t0)])) := eM1 ▸ (zup_n (fun z9 => hne z9.symm)).trans hV9
    have hX8 : xM θ σ w (xL w) M1 := eM1 ▸ hX.up hOf
    have o9 : M1 out = some (.inr (6, [.int (iI (clK (w 17 (m)))), .long (lI (0)), .null])) := eM1 ▸ zup_s
    refine z_as (st' := []) rfl rfl rfl ?_
    refine z_goto C 56 dX10_gives_31 (by decide) ?_
    exact z_vret C dX10_gives_56 (Nat.le_of_ble_eq_true rfl) (Nat.le_of_ble_eq_true rfl) ⟨rfl, (congrArg (fun M9 => zP θ M9 N) (by rw [← eM1] <;> (try simp only [zup_up]); obtain ⟨g1, g2, g3⟩ := gv_c (r := w 17 m) (t := xpI w m x) (k := k0) (b := b0) (u := t0) (by omega); rw [g1, g2, g3] <;> rfl))⟩
  · skip
    rw [xo_y n4]
    refine z_as (st' := [.ref (σ 10 (w 17 (m)))]) (lv' := [(0, .ref (b)), (1, .ref (fr)), (2, .ref (vc))]) rfl rfl rfl ?_
    refine z_ifnull C 10 dX10_gives_7 rfl ?_
    refine z_aload_n C 11 0 dX10_gives_10 rfl rfl ?_
    refine z_callO (owner := RX10) (As := []) (rest := []) C hκ hκl 14 (k12_type_12 hX hs hw hT (b) (m) (x) hb ⟨by omega, by omega⟩ r_x) dX10_gives_11 q1110 q1112 q1111 q1138 q1130 q1128 q106 q1129 ⟨by decide, by decide, rfl⟩ (Nat.le_of_ble_eq_true rfl) (Nat.le_of_ble_eq_true rfl) (Nat.le_of_ble_eq_true rfl) (Nat.le_of_ble_eq_true rfl) (zrec_P hb) rfl rfl (Nat.le_of_ble_eq_true rfl) rfl (fun v9 Q9 h9 => ?_)
    obtain ⟨rfl, rfl⟩ := h9
    refine z_as (st' := [va_rf (xo σ 10 (xpI w (m) (x)))]) rfl rfl rfl ?_
    rcases Int.lt_or_le (xpI w (m) (x)) 0 with n10 | n10
    · skip
      rw [xo_n n10]
      refine z_as (st' := [.null]) (lv' := [(0, .ref (b)), (1, .ref (fr)), (2, .ref (vc))]) rfl rfl rfl ?_
      refine z_ifnonnullN C 17 dX10_gives_14 rfl ?_
      refine z_aload_n C 18 1 dX10_gives_17 rfl rfl ?_
      refine z_getf C hκ (v := .ref (out)) 21 2 zk_X26 hFr (by decide) q1750 (Or.inl rfl) rfl dX10_gives_18 rfl ?_
      refine z_aload_n C 22 0 dX10_gives_21 rfl rfl ?_
      refine z_getf C hκ (v := .ref (σ 20 (m))) 25 0 zk_X12 hb (by decide) q772 (Or.inl rfl) rfl dX10_gives_22 rfl ?_
      refine z_getf C hκ (v := va_rf (xo σ 10 (w 17 (m)))) 28 5 zk_X9 (hX.mem (by omega) (by omega)) (by decide) q671 (Or.inl rfl) rfl dX10_gives_25 rfl ?_
      refine z_callV (As := [va_rf (xo σ 10 (w 17 (m)))]) (rest := []) C hκ hκl 31 (k6_clear hX hs hw hT (out) (k1) (b1) (t1) (w 17 (m)) hO ⟨by omega, by omega⟩) dX10_gives_28 q1788 q1789 q1790 q96 q1791 znX6_clear (Nat.le_of_ble_eq_true rfl) (Nat.le_of_ble_eq_true rfl) (Nat.le_of_ble_eq_true rfl) (Nat.le_of_ble_eq_true rfl) (zrec_P hO) rfl rfl (Nat.le_of_ble_eq_true rfl) rfl (fun v9 Q9 h9 => ?_)
      obtain ⟨rfl, rfl⟩ := h9
      obtain ⟨M2, eM2⟩ : ∃ z9 : zMap, zup M out (.inr (6, [.int (iI (clK (w 17 (m)))), .long (lI (0)), .null]) : va_E) = z9 := ⟨_, rfl⟩
      rw [eM2]
      have o11 : M2 b = some (.inr (12, [.ref (σ 20 (m)), .ref (σ 0 (0)), .int (iI (x)), .ref (σ 0 (0))])) := eM2 ▸ (zup_n ne2).trans hb
      have o12 : M2 fr = some (.inr (26, [va_rf (sf), .ref (ar), .ref (out), .int (iI (dp))])) := eM2 ▸ (zup_n ne3).trans hFr
      have o13 : M2 vc = some (.inr (6, [.int (iI (k0)), .long (lI (b0)), va_rf (t0)])) := eM2 ▸ (zup_n (fun z9 => hne z9.symm)).trans hV9
      have hX14 : xM θ σ w (xL w) M2 := eM2 ▸ hX.up hOf
      have o15 : M2 out = some (.inr (6, [.int (iI (clK (w 17 (m)))), .long (lI (0)), .null])) := eM2 ▸ zup_s
      refine z_as (st' := []) rfl rfl rfl ?_
      refine z_goto C 56 dX10_gives_31 (by decide) ?_
      exact z_vret C dX10_gives_56 (Nat.le_of_ble_eq_true rfl) (Nat.le_of_ble_eq_true rfl) ⟨rfl, (congrArg (fun M9 => zP θ M9 N) (by rw [← eM2] <;> (try simp only [zup_up]); obtain ⟨g1, g2, g3⟩ := gv_c (r := w 17 m) (t := xpI w m x) (k := k0) (b := b0) (u := t0) (by omega); rw [g1, g2, g3] <;> rfl))⟩
    · skip
      rw [xo_y n10]
      refine z_as (st' := [.ref (σ 10 (xpI w (m) (x)))]) (lv' := [(0, .ref (b)), (1, .ref (fr)), (2, .ref (vc))]) rfl rfl rfl ?_
      refine z_ifnonnull C 34 dX10_gives_14 (by decide) ?_
      refine z_aload_n C 35 1 dX10_gives_34 rfl rfl ?_
      refine z_getf C hκ (v := .ref (out)) 38 2 zk_X26 hFr (by decide) q1750 (Or.inl rfl) rfl dX10_gives_35 rfl ?_
      refine z_aload_n C 39 2 dX10_gives_38 rfl rfl ?_
      refine z_callV (As := [.ref (vc)]) (rest := []) C hκ hκl 42 (k6_become hT (out) (k1) (b1) (t1) (vc) (k0) (b0) (t0) hO hV9 hne) dX10_gives_39 q1792 q1575 q1576 q96 q1577 znX6_become (Nat.le_of_ble_eq_true rfl) (Nat.le_of_ble_eq_true rfl) (Nat.le_of_ble_eq_true rfl) (Nat.le_of_ble_eq_true rfl) (zrec_P hO) rfl rfl (Nat.le_of_ble_eq_true rfl) rfl (fun v9 Q9 h9 => ?_)
      obtain ⟨rfl, rfl⟩ := h9
      obtain ⟨M3, eM3⟩ : ∃ z9 : zMap, zup M out (.inr (6, [.int (iI (k0)), .long (lI (b0)), va_rf (t0)]) : va_E) = z9 := ⟨_, rfl⟩
      rw [eM3]
      have o16 : M3 b = some (.inr (12, [.ref (σ 20 (m)), .ref (σ 0 (0)), .int (iI (x)), .ref (σ 0 (0))])) := eM3 ▸ (zup_n ne2).trans hb
      have o17 : M3 fr = some (.inr (26, [va_rf (sf), .ref (ar), .ref (out), .int (iI (dp))])) := eM3 ▸ (zup_n ne3).trans hFr
      have o18 : M3 vc = some (.inr (6, [.int (iI (k0)), .long (lI (b0)), va_rf (t0)])) := eM3 ▸ (zup_n (fun z9 => hne z9.symm)).trans hV9
      have hX19 : xM θ σ w (xL w) M3 := eM3 ▸ hX.up hOf
      have o20 : M3 out = some (.inr (6, [.int (iI (k0)), .long (lI (b0)), va_rf (t0)])) := eM3 ▸ zup_s
      refine z_as (st' := []) rfl rfl rfl ?_
      refine z_aload_n C 43 1 dX10_gives_42 rfl rfl ?_
      refine z_getf C hκ (v := .ref (out)) 46 2 zk_X26 o17 (by decide) q1750 (Or.inl rfl) rfl dX10_gives_43 rfl ?_
      refine z_aload_n C 47 0 dX10_gives_46 rfl rfl ?_
      refine z_getf C hκ (v := .ref (σ 20 (m))) 50 0 zk_X12 o16 (by decide) q772 (Or.inl rfl) rfl dX10_gives_47 rfl ?_
      refine z_getf C hκ (v := va_rf (xo σ 10 (w 17 (m)))) 53 5 zk_X9 (hX19.mem (by omega) (by omega)) (by decide) q671 (Or.inl rfl) rfl dX10_gives_50 rfl ?_
      have y21 : 0 ≤ w 17 (m) := (by omega)
      rw [xo_y y21]
      refine z_as (st' := [.ref (σ 10 (w 17 (m))), .ref (out)]) (lv' := [(0, .ref (b)), (1, .ref (fr)), (2, .ref (vc))]) rfl rfl rfl ?_
      refine z_callV (As := [.ref (σ 10 (w 17 (m)))]) (rest := []) C hκ hκl 56 (k6_widenTo hX19 hs hw hT (out) (k0) (b0) (t0) (w 17 (m)) o20 hk r_k0 ⟨by omega, by omega⟩) dX10_gives_53 q1793 q1719 q1720 q96 q1721 znX6_widenTo (Nat.le_of_ble_eq_true rfl) (Nat.le_of_ble_eq_true rfl) (Nat.le_of_ble_eq_true rfl) (Nat.le_of_ble_eq_true rfl) (zrec_P o20) rfl rfl (Nat.le_of_ble_eq_true rfl) rfl (fun v9 Q9 h9 => ?_)
      obtain ⟨rfl, rfl⟩ := h9
      obtain ⟨M4, eM4⟩ : ∃ z9 : zMap, zup M3 out (.inr (6, [.int (iI (wtK (k0) (w 17 (m)))), .long (lI (wtB (k0) (b0) (w 17 (m)))), va_rf (t0)]) : va_E) = z9 := ⟨_, rfl⟩
      rw [eM4]
      have o22 : M4 b = some (.inr (12, [.ref (σ 20 (m)), .ref (σ 0 (0)), .int (iI (x)), .ref (σ 0 (0))])) := eM4 ▸ (zup_n ne2).trans o16
      have o23 : M4 fr = some (.inr (26, [va_rf (sf), .ref (ar), .ref (out), .int (iI (dp))])) := eM4 ▸ (zup_n ne3).trans o17
      have o24 : M4 vc = some (.inr (6, [.int (iI (k0)), .long (lI (b0)), va_rf (t0)])) := eM4 ▸ (zup_n (fun z9 => hne z9.symm)).trans o18
      have hX25 : xM θ σ w (xL w) M4 := eM4 ▸ hX19.up hOf
      have o26 : M4 out = some (.inr (6, [.int (iI (wtK (k0) (w 17 (m)))), .long (lI (wtB (k0) (b0) (w 17 (m)))), va_rf (t0)])) := eM4 ▸ zup_s
      refine z_as (st' := []) rfl rfl rfl ?_
      exact z_vret C dX10_gives_56 (Nat.le_of_ble_eq_true rfl) (Nat.le_of_ble_eq_true rfl) ⟨rfl, (congrArg (fun M9 => zP θ M9 N) (by rw [← eM4, ← eM3] <;> (try simp only [zup_up]); obtain ⟨g1, g2, g3⟩ := gv_w (r := w 17 m) (t := xpI w m x) (k := k0) (b := b0) (u := t0) (by omega); rw [g1, g2, g3] <;> rfl))⟩
set_option maxRecDepth 100000 in
theorem k10_gives_13 {l : Launch} {θ : zTh} {σ : xA} {w : mW} {M N : zMap} (hX : xM θ σ w (xL w) M) (hs : xS w) (hw : mWF w) (hT : zTb θ) (b : Nat) (m : Int) (f : Int) (fr : Nat) (sf : Option Nat) (ar : Nat) (out : Nat) (dp : Int) (k1 : Int) (b1 : Int) (t1 : Option Nat) (vc : Nat) (k0 : Int) (b0 : Int) (t0 : Option Nat)  (hb : M b = some (.inr (13, [.ref (σ 20 (m)), .ref (σ 0 (0)), va_rf (xo σ 20 (f)), .ref (σ 0 (0))]))) (hm : 0 ≤ m ∧ m < w 11 0) (hf : -1 ≤ f ∧ f < w 11 0) (r_dp : inR dp) (hFr : M fr = some (.inr (26, [va_rf (sf), .ref (ar), .ref (out), .int (iI (dp))]))) (hO : M out = some (.inr (6, [.int (iI (k1)), .long (lI (b1)), va_rf (t1)]))) (hOf : xFr σ w (xL w) out) (hV9 : M vc = some (.inr (6, [.int (iI (k0)), .long (lI (b0)), va_rf (t0)]))) (hne : out ≠ vc) (hk : nmOk k0 b0) (r_k0 : inR k0) (hf0 : 0 ≤ f) : ZM θ l yX10_gives cX10_gives 3 none ⟨4, 0, 0, 103⟩ [.ref (b), .ref (fr), .ref (vc)] (zP θ M N) (zFn none (zP θ (zup M out (.inr (6, [.int (iI (gvK (w 17 m) (w 17 f) k0)), .long (lI (gvB (w 17 m) (w 17 f) k0 b0)), va_rf (gvT (w 17 m) (w 17 f) t0)]))) N)) := by
  refine z_start (own := RX10) (nm := "gives") pnX10 rfl rfl (Nat.le_of_ble_eq_true rfl) ?_
  intro κ hκ hκl C
  change Z κ (zP θ M N) 0 0 0 [(0, .ref (b)), (1, .ref (fr)), (2, .ref (vc))] []
  have hS := hs.S
  have hB := hS.B
  obtain ⟨hB1, hB2, hB3, hB4, hB5, hB6⟩ := hS.B
  have hC := hS.C
  obtain ⟨h81, h82⟩ := hs.r8
  obtain ⟨f1a, f1b, f1c, f1d⟩ := hS.M (show 0 ≤ m by omega) (by omega)
  have ne2 : b ≠ out := fun z9 => by have z8 := hb; rw [z9, hO] at z8; cases z8
  have ne3 : fr ≠ out := fun z9 => by have z8 := hFr; rw [z9, hO] at z8; cases z8
  have k17 : -1 ≤ w 17 m := by omega
  obtain ⟨f4a, f4b, f4c, f4d⟩ := hS.M (show 0 ≤ f by omega) (by omega)
  have k17f : -1 ≤ w 17 f := by omega
  refine z_aload_n C 1 0 dX10_gives_0 rfl rfl ?_
  refine z_getf C hκ (v := .ref (σ 20 (m))) 4 0 zk_X13 hb (by decide) q772 (Or.inl rfl) rfl dX10_gives_1 rfl ?_
  refine z_getf C hκ (v := va_rf (xo σ 10 (w 17 (m)))) 7 5 zk_X9 (hX.mem (by omega) (by omega)) (by decide) q671 (Or.inl rfl) rfl dX10_gives_4 rfl ?_
  rcases Int.lt_or_le (w 17 (m)) 0 with n5 | n5
  · skip
    rw [xo_n n5]
    refine z_as (st' := [.null]) (lv' := [(0, .ref (b)), (1, .ref (fr)), (2, .ref (vc))]) rfl rfl rfl ?_
    refine z_ifnullN C 17 dX10_gives_7 (by decide) ?_
    refine z_aload_n C 18 1 dX10_gives_17 rfl rfl ?_
    refine z_getf C hκ (v := .ref (out)) 21 2 zk_X26 hFr (by decide) q1750 (Or.inl rfl) rfl dX10_gives_18 rfl ?_
    refine z_aload_n C 22 0 dX10_gives_21 rfl rfl ?_
    refine z_getf C hκ (v := .ref (σ 20 (m))) 25 0 zk_X13 hb (by decide) q772 (Or.inl rfl) rfl dX10_gives_22 rfl ?_
    refine z_getf C hκ (v := va_rf (xo σ 10 (w 17 (m)))) 28 5 zk_X9 (hX.mem (by omega) (by omega)) (by decide) q671 (Or.inl rfl) rfl dX10_gives_25 rfl ?_
    refine z_callV (As := [va_rf (xo σ 10 (w 17 (m)))]) (rest := []) C hκ hκl 31 (k6_clear hX hs hw hT (out) (k1) (b1) (t1) (w 17 (m)) hO ⟨by omega, by omega⟩) dX10_gives_28 q1788 q1789 q1790 q96 q1791 znX6_clear (Nat.le_of_ble_eq_true rfl) (Nat.le_of_ble_eq_true rfl) (Nat.le_of_ble_eq_true rfl) (Nat.le_of_ble_eq_true rfl) (zrec_P hO) rfl rfl (Nat.le_of_ble_eq_true rfl) rfl (fun v9 Q9 h9 => ?_)
    obtain ⟨rfl, rfl⟩ := h9
    obtain ⟨M1, eM1⟩ : ∃ z9 : zMap, zup M out (.inr (6, [.int (iI (clK (w 17 (m)))), .long (lI (0)), .null]) : va_E) = z9 := ⟨_, rfl⟩
    rw [eM1]
    have o6 : M1 b = some (.inr (13, [.ref (σ 20 (m)), .ref (σ 0 (0)), va_rf (xo σ 20 (f)), .ref (σ 0 (0))])) := eM1 ▸ (zup_n ne2).trans hb
    have o7 : M1 fr = some (.inr (26, [va_rf (sf), .ref (ar), .ref (out), .int (iI (dp))])) := eM1 ▸ (zup_n ne3).trans hFr
    have o8 : M1 vc = some (.inr (6, [.int (iI (k0)), .long (lI (b0)), va_rf (t0)])) := eM1 ▸ (zup_n (fun z9 => hne z9.symm)).trans hV9
    have hX9 : xM θ σ w (xL w) M1 := eM1 ▸ hX.up hOf
    have o10 : M1 out = some (.inr (6, [.int (iI (clK (w 17 (m)))), .long (lI (0)), .null])) := eM1 ▸ zup_s
    refine z_as (st' := []) rfl rfl rfl ?_
    refine z_goto C 56 dX10_gives_31 (by decide) ?_
    exact z_vret C dX10_gives_56 (Nat.le_of_ble_eq_true rfl) (Nat.le_of_ble_eq_true rfl) ⟨rfl, (congrArg (fun M9 => zP θ M9 N) (by rw [← eM1] <;> (try simp only [zup_up]); obtain ⟨g1, g2, g3⟩ := gv_c (r := w 17 m) (t := w 17 f) (k := k0) (b := b0) (u := t0) (by omega); rw [g1, g2, g3] <;> rfl))⟩
  · skip
    rw [xo_y n5]
    refine z_as (st' := [.ref (σ 10 (w 17 (m)))]) (lv' := [(0, .ref (b)), (1, .ref (fr)), (2, .ref (vc))]) rfl rfl rfl ?_
    refine z_ifnull C 10 dX10_gives_7 rfl ?_
    refine z_aload_n C 11 0 dX10_gives_10 rfl rfl ?_
    refine z_callO (owner := RX10) (As := []) (rest := []) C hκ hκl 14 (k13_type_13 hX hs hw hT (b) (m) (f) hb ⟨by omega, by omega⟩ ⟨by omega, by omega⟩ (by omega)) dX10_gives_11 q1110 q1112 q1111 q1138 q1132 q1133 q107 q1134 ⟨by decide, by decide, rfl⟩ (Nat.le_of_ble_eq_true rfl) (Nat.le_of_ble_eq_true rfl) (Nat.le_of_ble_eq_true rfl) (Nat.le_of_ble_eq_true rfl) (zrec_P hb) rfl rfl (Nat.le_of_ble_eq_true rfl) rfl (fun v9 Q9 h9 => ?_)
    obtain ⟨rfl, rfl⟩ := h9
    refine z_as (st' := [va_rf (xo σ 10 (w 17 (f)))]) rfl rfl rfl ?_
    rcases Int.lt_or_le (w 17 (f)) 0 with n11 | n11
    · skip
      rw [xo_n n11]
      refine z_as (st' := [.null]) (lv' := [(0, .ref (b)), (1, .ref (fr)), (2, .ref (vc))]) rfl rfl rfl ?_
      refine z_ifnonnullN C 17 dX10_gives_14 rfl ?_
      refine z_aload_n C 18 1 dX10_gives_17 rfl rfl ?_
      refine z_getf C hκ (v := .ref (out)) 21 2 zk_X26 hFr (by decide) q1750 (Or.inl rfl) rfl dX10_gives_18 rfl ?_
      refine z_aload_n C 22 0 dX10_gives_21 rfl rfl ?_
      refine z_getf C hκ (v := .ref (σ 20 (m))) 25 0 zk_X13 hb (by decide) q772 (Or.inl rfl) rfl dX10_gives_22 rfl ?_
      refine z_getf C hκ (v := va_rf (xo σ 10 (w 17 (m)))) 28 5 zk_X9 (hX.mem (by omega) (by omega)) (by decide) q671 (Or.inl rfl) rfl dX10_gives_25 rfl ?_
      refine z_callV (As := [va_rf (xo σ 10 (w 17 (m)))]) (rest := []) C hκ hκl 31 (k6_clear hX hs hw hT (out) (k1) (b1) (t1) (w 17 (m)) hO ⟨by omega, by omega⟩) dX10_gives_28 q1788 q1789 q1790 q96 q1791 znX6_clear (Nat.le_of_ble_eq_true rfl) (Nat.le_of_ble_eq_true rfl) (Nat.le_of_ble_eq_true rfl) (Nat.le_of_ble_eq_true rfl) (zrec_P hO) rfl rfl (Nat.le_of_ble_eq_true rfl) rfl (fun v9 Q9 h9 => ?_)
      obtain ⟨rfl, rfl⟩ := h9
      obtain ⟨M2, eM2⟩ : ∃ z9 : zMap, zup M out (.inr (6, [.int (iI (clK (w 17 (m)))), .long (lI (0)), .null]) : va_E) = z9 := ⟨_, rfl⟩
      rw [eM2]
      have o12 : M2 b = some (.inr (13, [.ref (σ 20 (m)), .ref (σ 0 (0)), va_rf (xo σ 20 (f)), .ref (σ 0 (0))])) := eM2 ▸ (zup_n ne2).trans hb
      have o13 : M2 fr = some (.inr (26, [va_rf (sf), .ref (ar), .ref (out), .int (iI (dp))])) := eM2 ▸ (zup_n ne3).trans hFr
      have o14 : M2 vc = some (.inr (6, [.int (iI (k0)), .long (lI (b0)), va_rf (t0)])) := eM2 ▸ (zup_n (fun z9 => hne z9.symm)).trans hV9
      have hX15 : xM θ σ w (xL w) M2 := eM2 ▸ hX.up hOf
      have o16 : M2 out = some (.inr (6, [.int (iI (clK (w 17 (m)))), .long (lI (0)), .null])) := eM2 ▸ zup_s
      refine z_as (st' := []) rfl rfl rfl ?_
      refine z_goto C 56 dX10_gives_31 (by decide) ?_
      exact z_vret C dX10_gives_56 (Nat.le_of_ble_eq_true rfl) (Nat.le_of_ble_eq_true rfl) ⟨rfl, (congrArg (fun M9 => zP θ M9 N) (by rw [← eM2] <;> (try simp only [zup_up]); obtain ⟨g1, g2, g3⟩ := gv_c (r := w 17 m) (t := w 17 f) (k := k0) (b := b0) (u := t0) (by omega); rw [g1, g2, g3] <;> rfl))⟩
    · skip
      rw [xo_y n11]
      refine z_as (st' := [.ref (σ 10 (w 17 (f)))]) (lv' := [(0, .ref (b)), (1, .ref (fr)), (2, .ref (vc))]) rfl rfl rfl ?_
      refine z_ifnonnull C 34 dX10_gives_14 (by decide) ?_
      refine z_aload_n C 35 1 dX10_gives_34 rfl rfl ?_
      refine z_getf C hκ (v := .ref (out)) 38 2 zk_X26 hFr (by decide) q1750 (Or.inl rfl) rfl dX10_gives_35 rfl ?_
      refine z_aload_n C 39 2 dX10_gives_38 rfl rfl ?_
      refine z_callV (As := [.ref (vc)]) (rest := []) C hκ hκl 42 (k6_become hT (out) (k1) (b1) (t1) (vc) (k0) (b0) (t0) hO hV9 hne) dX10_gives_39 q1792 q1575 q1576 q96 q1577 znX6_become (Nat.le_of_ble_eq_true rfl) (Nat.le_of_ble_eq_true rfl) (Nat.le_of_ble_eq_true rfl) (Nat.le_of_ble_eq_true rfl) (zrec_P hO) rfl rfl (Nat.le_of_ble_eq_true rfl) rfl (fun v9 Q9 h9 => ?_)
      obtain ⟨rfl, rfl⟩ := h9
      obtain ⟨M3, eM3⟩ : ∃ z9 : zMap, zup M out (.inr (6, [.int (iI (k0)), .long (lI (b0)), va_rf (t0)]) : va_E) = z9 := ⟨_, rfl⟩
      rw [eM3]
      have o17 : M3 b = some (.inr (13, [.ref (σ 20 (m)), .ref (σ 0 (0)), va_rf (xo σ 20 (f)), .ref (σ 0 (0))])) := eM3 ▸ (zup_n ne2).trans hb
      have o18 : M3 fr = some (.inr (26, [va_rf (sf), .ref (ar), .ref (out), .int (iI (dp))])) := eM3 ▸ (zup_n ne3).trans hFr
      have o19 : M3 vc = some (.inr (6, [.int (iI (k0)), .long (lI (b0)), va_rf (t0)])) := eM3 ▸ (zup_n (fun z9 => hne z9.symm)).trans hV9
      have hX20 : xM θ σ w (xL w) M3 := eM3 ▸ hX.up hOf
      have o21 : M3 out = some (.inr (6, [.int (iI (k0)), .long (lI (b0)), va_rf (t0)])) := eM3 ▸ zup_s
      refine z_as (st' := []) rfl rfl rfl ?_
      refine z_aload_n C 43 1 dX10_gives_42 rfl rfl ?_
      refine z_getf C hκ (v := .ref (out)) 46 2 zk_X26 o18 (by decide) q1750 (Or.inl rfl) rfl dX10_gives_43 rfl ?_
      refine z_aload_n C 47 0 dX10_gives_46 rfl rfl ?_
      refine z_getf C hκ (v := .ref (σ 20 (m))) 50 0 zk_X13 o17 (by decide) q772 (Or.inl rfl) rfl dX10_gives_47 rfl ?_
      refine z_getf C hκ (v := va_rf (xo σ 10 (w 17 (m)))) 53 5 zk_X9 (hX20.mem (by omega) (by omega)) (by decide) q671 (Or.inl rfl) rfl dX10_gives_50 rfl ?_
      have y22 : 0 ≤ w 17 (m) := (by omega)
      rw [xo_y y22]
      refine z_as (st' := [.ref (σ 10 (w 17 (m))), .ref (out)]) (lv' := [(0, .ref (b)), (1, .ref (fr)), (2, .ref (vc))]) rfl rfl rfl ?_
      refine z_callV (As := [.ref (σ 10 (w 17 (m)))]) (rest := []) C hκ hκl 56 (k6_widenTo hX20 hs hw hT (out) (k0) (b0) (t0) (w 17 (m)) o21 hk r_k0 ⟨by omega, by omega⟩) dX10_gives_53 q1793 q1719 q1720 q96 q1721 znX6_widenTo (Nat.le_of_ble_eq_true rfl) (Nat.le_of_ble_eq_true rfl) (Nat.le_of_ble_eq_true rfl) (Nat.le_of_ble_eq_true rfl) (zrec_P o21) rfl rfl (Nat.le_of_ble_eq_true rfl) rfl (fun v9 Q9 h9 => ?_)
      obtain ⟨rfl, rfl⟩ := h9
      obtain ⟨M4, eM4⟩ : ∃ z9 : zMap, zup M3 out (.inr (6, [.int (iI (wtK (k0) (w 17 (m)))), .long (lI (wtB (k0) (b0) (w 17 (m)))), va_rf (t0)]) : va_E) = z9 := ⟨_, rfl⟩
      rw [eM4]
      have o23 : M4 b = some (.inr (13, [.ref (σ 20 (m)), .ref (σ 0 (0)), va_rf (xo σ 20 (f)), .ref (σ 0 (0))])) := eM4 ▸ (zup_n ne2).trans o17
      have o24 : M4 fr = some (.inr (26, [va_rf (sf), .ref (ar), .ref (out), .int (iI (dp))])) := eM4 ▸ (zup_n ne3).trans o18
      have o25 : M4 vc = some (.inr (6, [.int (iI (k0)), .long (lI (b0)), va_rf (t0)])) := eM4 ▸ (zup_n (fun z9 => hne z9.symm)).trans o19
      have hX26 : xM θ σ w (xL w) M4 := eM4 ▸ hX20.up hOf
      have o27 : M4 out = some (.inr (6, [.int (iI (wtK (k0) (w 17 (m)))), .long (lI (wtB (k0) (b0) (w 17 (m)))), va_rf (t0)])) := eM4 ▸ zup_s
      refine z_as (st' := []) rfl rfl rfl ?_
      exact z_vret C dX10_gives_56 (Nat.le_of_ble_eq_true rfl) (Nat.le_of_ble_eq_true rfl) ⟨rfl, (congrArg (fun M9 => zP θ M9 N) (by rw [← eM4, ← eM3] <;> (try simp only [zup_up]); obtain ⟨g1, g2, g3⟩ := gv_w (r := w 17 m) (t := w 17 f) (k := k0) (b := b0) (u := t0) (by omega); rw [g1, g2, g3] <;> rfl))⟩
set_option maxRecDepth 100000 in
theorem k10_gives_16 {l : Launch} {θ : zTh} {σ : xA} {w : mW} {M N : zMap} (hX : xM θ σ w (xL w) M) (hs : xS w) (hw : mWF w) (hT : zTb θ) (b : Nat) (m : Int) (f : Int) (fr : Nat) (sf : Option Nat) (ar : Nat) (out : Nat) (dp : Int) (k1 : Int) (b1 : Int) (t1 : Option Nat) (vc : Nat) (k0 : Int) (b0 : Int) (t0 : Option Nat)  (hb : M b = some (.inr (16, [.ref (σ 20 (m)), .ref (σ 0 (0)), va_rf (xo σ 20 (f)), .ref (σ 0 (0))]))) (hm : 0 ≤ m ∧ m < w 11 0) (hf : -1 ≤ f ∧ f < w 11 0) (r_dp : inR dp) (hFr : M fr = some (.inr (26, [va_rf (sf), .ref (ar), .ref (out), .int (iI (dp))]))) (hO : M out = some (.inr (6, [.int (iI (k1)), .long (lI (b1)), va_rf (t1)]))) (hOf : xFr σ w (xL w) out) (hV9 : M vc = some (.inr (6, [.int (iI (k0)), .long (lI (b0)), va_rf (t0)]))) (hne : out ≠ vc) (hk : nmOk k0 b0) (r_k0 : inR k0) (hf0 : 0 ≤ f) : ZM θ l yX10_gives cX10_gives 3 none ⟨4, 0, 0, 103⟩ [.ref (b), .ref (fr), .ref (vc)] (zP θ M N) (zFn none (zP θ (zup M out (.inr (6, [.int (iI (gvK (w 17 m) (w 17 f) k0)), .long (lI (gvB (w 17 m) (w 17 f) k0 b0)), va_rf (gvT (w 17 m) (w 17 f) t0)]))) N)) := by
  refine z_start (own := RX10) (nm := "gives") pnX10 rfl rfl (Nat.le_of_ble_eq_true rfl) ?_
  intro κ hκ hκl C
  change Z κ (zP θ M N) 0 0 0 [(0, .ref (b)), (1, .ref (fr)), (2, .ref (vc))] []
  have hS := hs.S
  have hB := hS.B
  obtain ⟨hB1, hB2, hB3, hB4, hB5, hB6⟩ := hS.B
  have hC := hS.C
  obtain ⟨h81, h82⟩ := hs.r8
  obtain ⟨f1a, f1b, f1c, f1d⟩ := hS.M (show 0 ≤ m by omega) (by omega)
  have ne2 : b ≠ out := fun z9 => by have z8 := hb; rw [z9, hO] at z8; cases z8
  have ne3 : fr ≠ out := fun z9 => by have z8 := hFr; rw [z9, hO] at z8; cases z8
  have k17 : -1 ≤ w 17 m := by omega
  obtain ⟨f4a, f4b, f4c, f4d⟩ := hS.M (show 0 ≤ f by omega) (by omega)
  have k17f : -1 ≤ w 17 f := by omega
  refine z_aload_n C 1 0 dX10_gives_0 rfl rfl ?_
  refine z_getf C hκ (v := .ref (σ 20 (m))) 4 0 zk_X16 hb (by decide) q772 (Or.inl rfl) rfl dX10_gives_1 rfl ?_
  refine z_getf C hκ (v := va_rf (xo σ 10 (w 17 (m)))) 7 5 zk_X9 (hX.mem (by omega) (by omega)) (by decide) q671 (Or.inl rfl) rfl dX10_gives_4 rfl ?_
  rcases Int.lt_or_le (w 17 (m)) 0 with n5 | n5
  · skip
    rw [xo_n n5]
    refine z_as (st' := [.null]) (lv' := [(0, .ref (b)), (1, .ref (fr)), (2, .ref (vc))]) rfl rfl rfl ?_
    refine z_ifnullN C 17 dX10_gives_7 (by decide) ?_
    refine z_aload_n C 18 1 dX10_gives_17 rfl rfl ?_
    refine z_getf C hκ (v := .ref (out)) 21 2 zk_X26 hFr (by decide) q1750 (Or.inl rfl) rfl dX10_gives_18 rfl ?_
    refine z_aload_n C 22 0 dX10_gives_21 rfl rfl ?_
    refine z_getf C hκ (v := .ref (σ 20 (m))) 25 0 zk_X16 hb (by decide) q772 (Or.inl rfl) rfl dX10_gives_22 rfl ?_
    refine z_getf C hκ (v := va_rf (xo σ 10 (w 17 (m)))) 28 5 zk_X9 (hX.mem (by omega) (by omega)) (by decide) q671 (Or.inl rfl) rfl dX10_gives_25 rfl ?_
    refine z_callV (As := [va_rf (xo σ 10 (w 17 (m)))]) (rest := []) C hκ hκl 31 (k6_clear hX hs hw hT (out) (k1) (b1) (t1) (w 17 (m)) hO ⟨by omega, by omega⟩) dX10_gives_28 q1788 q1789 q1790 q96 q1791 znX6_clear (Nat.le_of_ble_eq_true rfl) (Nat.le_of_ble_eq_true rfl) (Nat.le_of_ble_eq_true rfl) (Nat.le_of_ble_eq_true rfl) (zrec_P hO) rfl rfl (Nat.le_of_ble_eq_true rfl) rfl (fun v9 Q9 h9 => ?_)
    obtain ⟨rfl, rfl⟩ := h9
    obtain ⟨M1, eM1⟩ : ∃ z9 : zMap, zup M out (.inr (6, [.int (iI (clK (w 17 (m)))), .long (lI (0)), .null]) : va_E) = z9 := ⟨_, rfl⟩
    rw [eM1]
    have o6 : M1 b = some (.inr (16, [.ref (σ 20 (m)), .ref (σ 0 (0)), va_rf (xo σ 20 (f)), .ref (σ 0 (0))])) := eM1 ▸ (zup_n ne2).trans hb
    have o7 : M1 fr = some (.inr (26, [va_rf (sf), .ref (ar), .ref (out), .int (iI (dp))])) := eM1 ▸ (zup_n ne3).trans hFr
    have o8 : M1 vc = some (.inr (6, [.int (iI (k0)), .long (lI (b0)), va_rf (t0)])) := eM1 ▸ (zup_n (fun z9 => hne z9.symm)).trans hV9
    have hX9 : xM θ σ w (xL w) M1 := eM1 ▸ hX.up hOf
    have o10 : M1 out = some (.inr (6, [.int (iI (clK (w 17 (m)))), .long (lI (0)), .null])) := eM1 ▸ zup_s
    refine z_as (st' := []) rfl rfl rfl ?_
    refine z_goto C 56 dX10_gives_31 (by decide) ?_
    exact z_vret C dX10_gives_56 (Nat.le_of_ble_eq_true rfl) (Nat.le_of_ble_eq_true rfl) ⟨rfl, (congrArg (fun M9 => zP θ M9 N) (by rw [← eM1] <;> (try simp only [zup_up]); obtain ⟨g1, g2, g3⟩ := gv_c (r := w 17 m) (t := w 17 f) (k := k0) (b := b0) (u := t0) (by omega); rw [g1, g2, g3] <;> rfl))⟩
  · skip
    rw [xo_y n5]
    refine z_as (st' := [.ref (σ 10 (w 17 (m)))]) (lv' := [(0, .ref (b)), (1, .ref (fr)), (2, .ref (vc))]) rfl rfl rfl ?_
    refine z_ifnull C 10 dX10_gives_7 rfl ?_
    refine z_aload_n C 11 0 dX10_gives_10 rfl rfl ?_
    refine z_callO (owner := RX10) (As := []) (rest := []) C hκ hκl 14 (k16_type_16 hX hs hw hT (b) (m) (f) hb ⟨by omega, by omega⟩ ⟨by omega, by omega⟩ (by omega)) dX10_gives_11 q1110 q1112 q1111 q1138 q1122 q1114 q110 q1115 ⟨by decide, by decide, rfl⟩ (Nat.le_of_ble_eq_true rfl) (Nat.le_of_ble_eq_true rfl) (Nat.le_of_ble_eq_true rfl) (Nat.le_of_ble_eq_true rfl) (zrec_P hb) rfl rfl (Nat.le_of_ble_eq_true rfl) rfl (fun v9 Q9 h9 => ?_)
    obtain ⟨rfl, rfl⟩ := h9
    refine z_as (st' := [va_rf (xo σ 10 (w 17 (f)))]) rfl rfl rfl ?_
    rcases Int.lt_or_le (w 17 (f)) 0 with n11 | n11
    · skip
      rw [xo_n n11]
      refine z_as (st' := [.null]) (lv' := [(0, .ref (b)), (1, .ref (fr)), (2, .ref (vc))]) rfl rfl rfl ?_
      refine z_ifnonnullN C 17 dX10_gives_14 rfl ?_
      refine z_aload_n C 18 1 dX10_gives_17 rfl rfl ?_
      refine z_getf C hκ (v := .ref (out)) 21 2 zk_X26 hFr (by decide) q1750 (Or.inl rfl) rfl dX10_gives_18 rfl ?_
      refine z_aload_n C 22 0 dX10_gives_21 rfl rfl ?_
      refine z_getf C hκ (v := .ref (σ 20 (m))) 25 0 zk_X16 hb (by decide) q772 (Or.inl rfl) rfl dX10_gives_22 rfl ?_
      refine z_getf C hκ (v := va_rf (xo σ 10 (w 17 (m)))) 28 5 zk_X9 (hX.mem (by omega) (by omega)) (by decide) q671 (Or.inl rfl) rfl dX10_gives_25 rfl ?_
      refine z_callV (As := [va_rf (xo σ 10 (w 17 (m)))]) (rest := []) C hκ hκl 31 (k6_clear hX hs hw hT (out) (k1) (b1) (t1) (w 17 (m)) hO ⟨by omega, by omega⟩) dX10_gives_28 q1788 q1789 q1790 q96 q1791 znX6_clear (Nat.le_of_ble_eq_true rfl) (Nat.le_of_ble_eq_true rfl) (Nat.le_of_ble_eq_true rfl) (Nat.le_of_ble_eq_true rfl) (zrec_P hO) rfl rfl (Nat.le_of_ble_eq_true rfl) rfl (fun v9 Q9 h9 => ?_)
      obtain ⟨rfl, rfl⟩ := h9
      obtain ⟨M2, eM2⟩ : ∃ z9 : zMap, zup M out (.inr (6, [.int (iI (clK (w 17 (m)))), .long (lI (0)), .null]) : va_E) = z9 := ⟨_, rfl⟩
      rw [eM2]
      have o12 : M2 b = some (.inr (16, [.ref (σ 20 (m)), .ref (σ 0 (0)), va_rf (xo σ 20 (f)), .ref (σ 0 (0))])) := eM2 ▸ (zup_n ne2).trans hb
      have o13 : M2 fr = some (.inr (26, [va_rf (sf), .ref (ar), .ref (out), .int (iI (dp))])) := eM2 ▸ (zup_n ne3).trans hFr
      have o14 : M2 vc = some (.inr (6, [.int (iI (k0)), .long (lI (b0)), va_rf (t0)])) := eM2 ▸ (zup_n (fun z9 => hne z9.symm)).trans hV9
      have hX15 : xM θ σ w (xL w) M2 := eM2 ▸ hX.up hOf
      have o16 : M2 out = some (.inr (6, [.int (iI (clK (w 17 (m)))), .long (lI (0)), .null])) := eM2 ▸ zup_s
      refine z_as (st' := []) rfl rfl rfl ?_
      refine z_goto C 56 dX10_gives_31 (by decide) ?_
      exact z_vret C dX10_gives_56 (Nat.le_of_ble_eq_true rfl) (Nat.le_of_ble_eq_true rfl) ⟨rfl, (congrArg (fun M9 => zP θ M9 N) (by rw [← eM2] <;> (try simp only [zup_up]); obtain ⟨g1, g2, g3⟩ := gv_c (r := w 17 m) (t := w 17 f) (k := k0) (b := b0) (u := t0) (by omega); rw [g1, g2, g3] <;> rfl))⟩
    · skip
      rw [xo_y n11]
      refine z_as (st' := [.ref (σ 10 (w 17 (f)))]) (lv' := [(0, .ref (b)), (1, .ref (fr)), (2, .ref (vc))]) rfl rfl rfl ?_
      refine z_ifnonnull C 34 dX10_gives_14 (by decide) ?_
      refine z_aload_n C 35 1 dX10_gives_34 rfl rfl ?_
      refine z_getf C hκ (v := .ref (out)) 38 2 zk_X26 hFr (by decide) q1750 (Or.inl rfl) rfl dX10_gives_35 rfl ?_
      refine z_aload_n C 39 2 dX10_gives_38 rfl rfl ?_
      refine z_callV (As := [.ref (vc)]) (rest := []) C hκ hκl 42 (k6_become hT (out) (k1) (b1) (t1) (vc) (k0) (b0) (t0) hO hV9 hne) dX10_gives_39 q1792 q1575 q1576 q96 q1577 znX6_become (Nat.le_of_ble_eq_true rfl) (Nat.le_of_ble_eq_true rfl) (Nat.le_of_ble_eq_true rfl) (Nat.le_of_ble_eq_true rfl) (zrec_P hO) rfl rfl (Nat.le_of_ble_eq_true rfl) rfl (fun v9 Q9 h9 => ?_)
      obtain ⟨rfl, rfl⟩ := h9
      obtain ⟨M3, eM3⟩ : ∃ z9 : zMap, zup M out (.inr (6, [.int (iI (k0)), .long (lI (b0)), va_rf (t0)]) : va_E) = z9 := ⟨_, rfl⟩
      rw [eM3]
      have o17 : M3 b = some (.inr (16, [.ref (σ 20 (m)), .ref (σ 0 (0)), va_rf (xo σ 20 (f)), .ref (σ 0 (0))])) := eM3 ▸ (zup_n ne2).trans hb
      have o18 : M3 fr = some (.inr (26, [va_rf (sf), .ref (ar), .ref (out), .int (iI (dp))])) := eM3 ▸ (zup_n ne3).trans hFr
      have o19 : M3 vc = some (.inr (6, [.int (iI (k0)), .long (lI (b0)), va_rf (t0)])) := eM3 ▸ (zup_n (fun z9 => hne z9.symm)).trans hV9
      have hX20 : xM θ σ w (xL w) M3 := eM3 ▸ hX.up hOf
      have o21 : M3 out = some (.inr (6, [.int (iI (k0)), .long (lI (b0)), va_rf (t0)])) := eM3 ▸ zup_s
      refine z_as (st' := []) rfl rfl rfl ?_
      refine z_aload_n C 43 1 dX10_gives_42 rfl rfl ?_
      refine z_getf C hκ (v := .ref (out)) 46 2 zk_X26 o18 (by decide) q1750 (Or.inl rfl) rfl dX10_gives_43 rfl ?_
      refine z_aload_n C 47 0 dX10_gives_46 rfl rfl ?_
      refine z_getf C hκ (v := .ref (σ 20 (m))) 50 0 zk_X16 o17 (by decide) q772 (Or.inl rfl) rfl dX10_gives_47 rfl ?_
      refine z_getf C hκ (v := va_rf (xo σ 10 (w 17 (m)))) 53 5 zk_X9 (hX20.mem (by omega) (by omega)) (by decide) q671 (Or.inl rfl) rfl dX10_gives_50 rfl ?_
      have y22 : 0 ≤ w 17 (m) := (by omega)
      rw [xo_y y22]
      refine z_as (st' := [.ref (σ 10 (w 17 (m))), .ref (out)]) (lv' := [(0, .ref (b)), (1, .ref (fr)), (2, .ref (vc))]) rfl rfl rfl ?_
      refine z_callV (As := [.ref (σ 10 (w 17 (m)))]) (rest := []) C hκ hκl 56 (k6_widenTo hX20 hs hw hT (out) (k0) (b0) (t0) (w 17 (m)) o21 hk r_k0 ⟨by omega, by omega⟩) dX10_gives_53 q1793 q1719 q1720 q96 q1721 znX6_widenTo (Nat.le_of_ble_eq_true rfl) (Nat.le_of_ble_eq_true rfl) (Nat.le_of_ble_eq_true rfl) (Nat.le_of_ble_eq_true rfl) (zrec_P o21) rfl rfl (Nat.le_of_ble_eq_true rfl) rfl (fun v9 Q9 h9 => ?_)
      obtain ⟨rfl, rfl⟩ := h9
      obtain ⟨M4, eM4⟩ : ∃ z9 : zMap, zup M3 out (.inr (6, [.int (iI (wtK (k0) (w 17 (m)))), .long (lI (wtB (k0) (b0) (w 17 (m)))), va_rf (t0)]) : va_E) = z9 := ⟨_, rfl⟩
      rw [eM4]
      have o23 : M4 b = some (.inr (16, [.ref (σ 20 (m)), .ref (σ 0 (0)), va_rf (xo σ 20 (f)), .ref (σ 0 (0))])) := eM4 ▸ (zup_n ne2).trans o17
      have o24 : M4 fr = some (.inr (26, [va_rf (sf), .ref (ar), .ref (out), .int (iI (dp))])) := eM4 ▸ (zup_n ne3).trans o18
      have o25 : M4 vc = some (.inr (6, [.int (iI (k0)), .long (lI (b0)), va_rf (t0)])) := eM4 ▸ (zup_n (fun z9 => hne z9.symm)).trans o19
      have hX26 : xM θ σ w (xL w) M4 := eM4 ▸ hX20.up hOf
      have o27 : M4 out = some (.inr (6, [.int (iI (wtK (k0) (w 17 (m)))), .long (lI (wtB (k0) (b0) (w 17 (m)))), va_rf (t0)])) := eM4 ▸ zup_s
      refine z_as (st' := []) rfl rfl rfl ?_
      exact z_vret C dX10_gives_56 (Nat.le_of_ble_eq_true rfl) (Nat.le_of_ble_eq_true rfl) ⟨rfl, (congrArg (fun M9 => zP θ M9 N) (by rw [← eM4, ← eM3] <;> (try simp only [zup_up]); obtain ⟨g1, g2, g3⟩ := gv_w (r := w 17 m) (t := w 17 f) (k := k0) (b := b0) (u := t0) (by omega); rw [g1, g2, g3] <;> rfl))⟩
set_option maxRecDepth 100000 in
theorem k10_gives_17 {l : Launch} {θ : zTh} {σ : xA} {w : mW} {M N : zMap} (hX : xM θ σ w (xL w) M) (hs : xS w) (hw : mWF w) (hT : zTb θ) (b : Nat) (m : Int) (x : Int) (y : Int) (fr : Nat) (sf : Option Nat) (ar : Nat) (out : Nat) (dp : Int) (k1 : Int) (b1 : Int) (t1 : Option Nat) (vc : Nat) (k0 : Int) (b0 : Int) (t0 : Option Nat)  (hb : M b = some (.inr (17, [.ref (σ 20 (m)), .ref (σ 0 (0)), .int (iI (x)), .ref (σ 0 (0)), .int (iI (y)), .ref (σ 0 (0))]))) (hm : 0 ≤ m ∧ m < w 11 0) (r_x : inR x) (r_y : inR y) (r_dp : inR dp) (hFr : M fr = some (.inr (26, [va_rf (sf), .ref (ar), .ref (out), .int (iI (dp))]))) (hO : M out = some (.inr (6, [.int (iI (k1)), .long (lI (b1)), va_rf (t1)]))) (hOf : xFr σ w (xL w) out) (hV9 : M vc = some (.inr (6, [.int (iI (k0)), .long (lI (b0)), va_rf (t0)]))) (hne : out ≠ vc) (hk : nmOk k0 b0) (r_k0 : inR k0) (hx0 : 0 ≤ xpI w m x ∧ xpI w m x < 8) (hy0 : 0 ≤ xpI w m y ∧ xpI w m y < 8) : ZM θ l yX10_gives cX10_gives 3 none ⟨4, 0, 0, 103⟩ [.ref (b), .ref (fr), .ref (vc)] (zP θ M N) (zFn none (zP θ (zup M out (.inr (6, [.int (iI (gvK (w 17 m) (suI (xpI w m x) (xpI w m y)) k0)), .long (lI (gvB (w 17 m) (suI (xpI w m x) (xpI w m y)) k0 b0)), va_rf (gvT (w 17 m) (suI (xpI w m x) (xpI w m y)) t0)]))) N)) := by
  refine z_start (own := RX10) (nm := "gives") pnX10 rfl rfl (Nat.le_of_ble_eq_true rfl) ?_
  intro κ hκ hκl C
  change Z κ (zP θ M N) 0 0 0 [(0, .ref (b)), (1, .ref (fr)), (2, .ref (vc))] []
  have hS := hs.S
  have hB := hS.B
  obtain ⟨hB1, hB2, hB3, hB4, hB5, hB6⟩ := hS.B
  have hC := hS.C
  obtain ⟨h81, h82⟩ := hs.r8
  obtain ⟨f1a, f1b, f1c, f1d⟩ := hS.M (show 0 ≤ m by omega) (by omega)
  have ne2 : b ≠ out := fun z9 => by have z8 := hb; rw [z9, hO] at z8; cases z8
  have ne3 : fr ≠ out := fun z9 => by have z8 := hFr; rw [z9, hO] at z8; cases z8
  have k17 : -1 ≤ w 17 m := by omega
  have hsu : 4 ≤ suI (xpI w m x) (xpI w m y) ∧ suI (xpI w m x) (xpI w m y) < 8 := by unfold suI; (repeat' split) <;> omega
  refine z_aload_n C 1 0 dX10_gives_0 rfl rfl ?_
  refine z_getf C hκ (v := .ref (σ 20 (m))) 4 0 zk_X17 hb (by decide) q772 (Or.inl rfl) rfl dX10_gives_1 rfl ?_
  refine z_getf C hκ (v := va_rf (xo σ 10 (w 17 (m)))) 7 5 zk_X9 (hX.mem (by omega) (by omega)) (by decide) q671 (Or.inl rfl) rfl dX10_gives_4 rfl ?_
  rcases Int.lt_or_le (w 17 (m)) 0 with n4 | n4
  · skip
    rw [xo_n n4]
    refine z_as (st' := [.null]) (lv' := [(0, .ref (b)), (1, .ref (fr)), (2, .ref (vc))]) rfl rfl rfl ?_
    refine z_ifnullN C 17 dX10_gives_7 (by decide) ?_
    refine z_aload_n C 18 1 dX10_gives_17 rfl rfl ?_
    refine z_getf C hκ (v := .ref (out)) 21 2 zk_X26 hFr (by decide) q1750 (Or.inl rfl) rfl dX10_gives_18 rfl ?_
    refine z_aload_n C 22 0 dX10_gives_21 rfl rfl ?_
    refine z_getf C hκ (v := .ref (σ 20 (m))) 25 0 zk_X17 hb (by decide) q772 (Or.inl rfl) rfl dX10_gives_22 rfl ?_
    refine z_getf C hκ (v := va_rf (xo σ 10 (w 17 (m)))) 28 5 zk_X9 (hX.mem (by omega) (by omega)) (by decide) q671 (Or.inl rfl) rfl dX10_gives_25 rfl ?_
    refine z_callV (As := [va_rf (xo σ 10 (w 17 (m)))]) (rest := []) C hκ hκl 31 (k6_clear hX hs hw hT (out) (k1) (b1) (t1) (w 17 (m)) hO ⟨by omega, by omega⟩) dX10_gives_28 q1788 q1789 q1790 q96 q1791 znX6_clear (Nat.le_of_ble_eq_true rfl) (Nat.le_of_ble_eq_true rfl) (Nat.le_of_ble_eq_true rfl) (Nat.le_of_ble_eq_true rfl) (zrec_P hO) rfl rfl (Nat.le_of_ble_eq_true rfl) rfl (fun v9 Q9 h9 => ?_)
    obtain ⟨rfl, rfl⟩ := h9
    obtain ⟨M1, eM1⟩ : ∃ z9 : zMap, zup M out (.inr (6, [.int (iI (clK (w 17 (m)))), .long (lI (0)), .null]) : va_E) = z9 := ⟨_, rfl⟩
    rw [eM1]
    have o5 : M1 b = some (.inr (17, [.ref (σ 20 (m)), .ref (σ 0 (0)), .int (iI (x)), .ref (σ 0 (0)), .int (iI (y)), .ref (σ 0 (0))])) := eM1 ▸ (zup_n ne2).trans hb
    have o6 : M1 fr = some (.inr (26, [va_rf (sf), .ref (ar), .ref (out), .int (iI (dp))])) := eM1 ▸ (zup_n ne3).trans hFr
    have o7 : M1 vc = some (.inr (6, [.int (iI (k0)), .long (lI (b0)), va_rf (t0)])) := eM1 ▸ (zup_n (fun z9 => hne z9.symm)).trans hV9
    have hX8 : xM θ σ w (xL w) M1 := eM1 ▸ hX.up hOf
    have o9 : M1 out = some (.inr (6, [.int (iI (clK (w 17 (m)))), .long (lI (0)), .null])) := eM1 ▸ zup_s
    refine z_as (st' := []) rfl rfl rfl ?_
    refine z_goto C 56 dX10_gives_31 (by decide) ?_
    exact z_vret C dX10_gives_56 (Nat.le_of_ble_eq_true rfl) (Nat.le_of_ble_eq_true rfl) ⟨rfl, (congrArg (fun M9 => zP θ M9 N) (by rw [← eM1] <;> (try simp only [zup_up]); obtain ⟨g1, g2, g3⟩ := gv_c (r := w 17 m) (t := suI (xpI w m x) (xpI w m y)) (k := k0) (b := b0) (u := t0) (by omega); rw [g1, g2, g3] <;> rfl))⟩
  · skip
    rw [xo_y n4]
    refine z_as (st' := [.ref (σ 10 (w 17 (m)))]) (lv' := [(0, .ref (b)), (1, .ref (fr)), (2, .ref (vc))]) rfl rfl rfl ?_
    refine z_ifnull C 10 dX10_gives_7 rfl ?_
    refine z_aload_n C 11 0 dX10_gives_10 rfl rfl ?_
    refine z_callO (owner := RX10) (As := []) (rest := []) C hκ hκl 14 (k17_type_17 hX hs hw hT (b) (m) (x) (y) hb ⟨by omega, by omega⟩ r_x r_y ⟨by omega, by omega⟩ ⟨by omega, by omega⟩) dX10_gives_11 q1110 q1112 q1111 q1138 q1116 q1117 q111 q1118 ⟨by decide, by decide, rfl⟩ (Nat.le_of_ble_eq_true rfl) (Nat.le_of_ble_eq_true rfl) (Nat.le_of_ble_eq_true rfl) (Nat.le_of_ble_eq_true rfl) (zrec_P hb) rfl rfl (Nat.le_of_ble_eq_true rfl) rfl (fun v9 Q9 h9 => ?_)
    obtain ⟨rfl, rfl⟩ := h9
    refine z_as (st' := [.ref (σ 10 (suI (xpI w (m) (x)) (xpI w (m) (y))))]) rfl rfl rfl ?_
    refine z_ifnonnull C 34 dX10_gives_14 (by decide) ?_
    refine z_aload_n C 35 1 dX10_gives_34 rfl rfl ?_
    refine z_getf C hκ (v := .ref (out)) 38 2 zk_X26 hFr (by decide) q1750 (Or.inl rfl) rfl dX10_gives_35 rfl ?_
    refine z_aload_n C 39 2 dX10_gives_38 rfl rfl ?_
    refine z_callV (As := [.ref (vc)]) (rest := []) C hκ hκl 42 (k6_become hT (out) (k1) (b1) (t1) (vc) (k0) (b0) (t0) hO hV9 hne) dX10_gives_39 q1792 q1575 q1576 q96 q1577 znX6_become (Nat.le_of_ble_eq_true rfl) (Nat.le_of_ble_eq_true rfl) (Nat.le_of_ble_eq_true rfl) (Nat.le_of_ble_eq_true rfl) (zrec_P hO) rfl rfl (Nat.le_of_ble_eq_true rfl) rfl (fun v9 Q9 h9 => ?_)
    obtain ⟨rfl, rfl⟩ := h9
    obtain ⟨M2, eM2⟩ : ∃ z9 : zMap, zup M out (.inr (6, [.int (iI (k0)), .long (lI (b0)), va_rf (t0)]) : va_E) = z9 := ⟨_, rfl⟩
    rw [eM2]
    have o10 : M2 b = some (.inr (17, [.ref (σ 20 (m)), .ref (σ 0 (0)), .int (iI (x)), .ref (σ 0 (0)), .int (iI (y)), .ref (σ 0 (0))])) := eM2 ▸ (zup_n ne2).trans hb
    have o11 : M2 fr = some (.inr (26, [va_rf (sf), .ref (ar), .ref (out), .int (iI (dp))])) := eM2 ▸ (zup_n ne3).trans hFr
    have o12 : M2 vc = some (.inr (6, [.int (iI (k0)), .long (lI (b0)), va_rf (t0)])) := eM2 ▸ (zup_n (fun z9 => hne z9.symm)).trans hV9
    have hX13 : xM θ σ w (xL w) M2 := eM2 ▸ hX.up hOf
    have o14 : M2 out = some (.inr (6, [.int (iI (k0)), .long (lI (b0)), va_rf (t0)])) := eM2 ▸ zup_s
    refine z_as (st' := []) rfl rfl rfl ?_
    refine z_aload_n C 43 1 dX10_gives_42 rfl rfl ?_
    refine z_getf C hκ (v := .ref (out)) 46 2 zk_X26 o11 (by decide) q1750 (Or.inl rfl) rfl dX10_gives_43 rfl ?_
    refine z_aload_n C 47 0 dX10_gives_46 rfl rfl ?_
    refine z_getf C hκ (v := .ref (σ 20 (m))) 50 0 zk_X17 o10 (by decide) q772 (Or.inl rfl) rfl dX10_gives_47 rfl ?_
    refine z_getf C hκ (v := va_rf (xo σ 10 (w 17 (m)))) 53 5 zk_X9 (hX13.mem (by omega) (by omega)) (by decide) q671 (Or.inl rfl) rfl dX10_gives_50 rfl ?_
    have y15 : 0 ≤ w 17 (m) := (by omega)
    rw [xo_y y15]
    refine z_as (st' := [.ref (σ 10 (w 17 (m))), .ref (out)]) (lv' := [(0, .ref (b)), (1, .ref (fr)), (2, .ref (vc))]) rfl rfl rfl ?_
    refine z_callV (As := [.ref (σ 10 (w 17 (m)))]) (rest := []) C hκ hκl 56 (k6_widenTo hX13 hs hw hT (out) (k0) (b0) (t0) (w 17 (m)) o14 hk r_k0 ⟨by omega, by omega⟩) dX10_gives_53 q1793 q1719 q1720 q96 q1721 znX6_widenTo (Nat.le_of_ble_eq_true rfl) (Nat.le_of_ble_eq_true rfl) (Nat.le_of_ble_eq_true rfl) (Nat.le_of_ble_eq_true rfl) (zrec_P o14) rfl rfl (Nat.le_of_ble_eq_true rfl) rfl (fun v9 Q9 h9 => ?_)
    obtain ⟨rfl, rfl⟩ := h9
    obtain ⟨M3, eM3⟩ : ∃ z9 : zMap, zup M2 out (.inr (6, [.int (iI (wtK (k0) (w 17 (m)))), .long (lI (wtB (k0) (b0) (w 17 (m)))), va_rf (t0)]) : va_E) = z9 := ⟨_, rfl⟩
    rw [eM3]
    have o16 : M3 b = some (.inr (17, [.ref (σ 20 (m)), .ref (σ 0 (0)), .int (iI (x)), .ref (σ 0 (0)), .int (iI (y)), .ref (σ 0 (0))])) := eM3 ▸ (zup_n ne2).trans o10
    have o17 : M3 fr = some (.inr (26, [va_rf (sf), .ref (ar), .ref (out), .int (iI (dp))])) := eM3 ▸ (zup_n ne3).trans o11
    have o18 : M3 vc = some (.inr (6, [.int (iI (k0)), .long (lI (b0)), va_rf (t0)])) := eM3 ▸ (zup_n (fun z9 => hne z9.symm)).trans o12
    have hX19 : xM θ σ w (xL w) M3 := eM3 ▸ hX13.up hOf
    have o20 : M3 out = some (.inr (6, [.int (iI (wtK (k0) (w 17 (m)))), .long (lI (wtB (k0) (b0) (w 17 (m)))), va_rf (t0)])) := eM3 ▸ zup_s
    refine z_as (st' := []) rfl rfl rfl ?_
    exact z_vret C dX10_gives_56 (Nat.le_of_ble_eq_true rfl) (Nat.le_of_ble_eq_true rfl) ⟨rfl, (congrArg (fun M9 => zP θ M9 N) (by rw [← eM3, ← eM2] <;> (try simp only [zup_up]); obtain ⟨g1, g2, g3⟩ := gv_w (r := w 17 m) (t := suI (xpI w m x) (xpI w m y)) (k := k0) (b := b0) (u := t0) (by omega); rw [g1, g2, g3] <;> rfl))⟩
set_option maxRecDepth 100000 in
theorem k10_gives_18 {l : Launch} {θ : zTh} {σ : xA} {w : mW} {M N : zMap} (hX : xM θ σ w (xL w) M) (hs : xS w) (hw : mWF w) (hT : zTb θ) (b : Nat) (m : Int) (f : Int) (fr : Nat) (sf : Option Nat) (ar : Nat) (out : Nat) (dp : Int) (k1 : Int) (b1 : Int) (t1 : Option Nat) (vc : Nat) (k0 : Int) (b0 : Int) (t0 : Option Nat)  (hb : M b = some (.inr (18, [.ref (σ 20 (m)), .ref (σ 0 (0)), va_rf (xo σ 20 (f)), .ref (σ 0 (0)), .ref (σ 0 (0))]))) (hm : 0 ≤ m ∧ m < w 11 0) (hf : -1 ≤ f ∧ f < w 11 0) (r_dp : inR dp) (hFr : M fr = some (.inr (26, [va_rf (sf), .ref (ar), .ref (out), .int (iI (dp))]))) (hO : M out = some (.inr (6, [.int (iI (k1)), .long (lI (b1)), va_rf (t1)]))) (hOf : xFr σ w (xL w) out) (hV9 : M vc = some (.inr (6, [.int (iI (k0)), .long (lI (b0)), va_rf (t0)]))) (hne : out ≠ vc) (hk : nmOk k0 b0) (r_k0 : inR k0) (hf0 : 0 ≤ f) : ZM θ l yX10_gives cX10_gives 3 none ⟨4, 0, 0, 103⟩ [.ref (b), .ref (fr), .ref (vc)] (zP θ M N) (zFn none (zP θ (zup M out (.inr (6, [.int (iI (gvK (w 17 m) (w 17 f) k0)), .long (lI (gvB (w 17 m) (w 17 f) k0 b0)), va_rf (gvT (w 17 m) (w 17 f) t0)]))) N)) := by
  refine z_start (own := RX10) (nm := "gives") pnX10 rfl rfl (Nat.le_of_ble_eq_true rfl) ?_
  intro κ hκ hκl C
  change Z κ (zP θ M N) 0 0 0 [(0, .ref (b)), (1, .ref (fr)), (2, .ref (vc))] []
  have hS := hs.S
  have hB := hS.B
  obtain ⟨hB1, hB2, hB3, hB4, hB5, hB6⟩ := hS.B
  have hC := hS.C
  obtain ⟨h81, h82⟩ := hs.r8
  obtain ⟨f1a, f1b, f1c, f1d⟩ := hS.M (show 0 ≤ m by omega) (by omega)
  have ne2 : b ≠ out := fun z9 => by have z8 := hb; rw [z9, hO] at z8; cases z8
  have ne3 : fr ≠ out := fun z9 => by have z8 := hFr; rw [z9, hO] at z8; cases z8
  have k17 : -1 ≤ w 17 m := by omega
  obtain ⟨f4a, f4b, f4c, f4d⟩ := hS.M (show 0 ≤ f by omega) (by omega)
  have k17f : -1 ≤ w 17 f := by omega
  refine z_aload_n C 1 0 dX10_gives_0 rfl rfl ?_
  refine z_getf C hκ (v := .ref (σ 20 (m))) 4 0 zk_X18 hb (by decide) q772 (Or.inl rfl) rfl dX10_gives_1 rfl ?_
  refine z_getf C hκ (v := va_rf (xo σ 10 (w 17 (m)))) 7 5 zk_X9 (hX.mem (by omega) (by omega)) (by decide) q671 (Or.inl rfl) rfl dX10_gives_4 rfl ?_
  rcases Int.lt_or_le (w 17 (m)) 0 with n5 | n5
  · skip
    rw [xo_n n5]
    refine z_as (st' := [.null]) (lv' := [(0, .ref (b)), (1, .ref (fr)), (2, .ref (vc))]) rfl rfl rfl ?_
    refine z_ifnullN C 17 dX10_gives_7 (by decide) ?_
    refine z_aload_n C 18 1 dX10_gives_17 rfl rfl ?_
    refine z_getf C hκ (v := .ref (out)) 21 2 zk_X26 hFr (by decide) q1750 (Or.inl rfl) rfl dX10_gives_18 rfl ?_
    refine z_aload_n C 22 0 dX10_gives_21 rfl rfl ?_
    refine z_getf C hκ (v := .ref (σ 20 (m))) 25 0 zk_X18 hb (by decide) q772 (Or.inl rfl) rfl dX10_gives_22 rfl ?_
    refine z_getf C hκ (v := va_rf (xo σ 10 (w 17 (m)))) 28 5 zk_X9 (hX.mem (by omega) (by omega)) (by decide) q671 (Or.inl rfl) rfl dX10_gives_25 rfl ?_
    refine z_callV (As := [va_rf (xo σ 10 (w 17 (m)))]) (rest := []) C hκ hκl 31 (k6_clear hX hs hw hT (out) (k1) (b1) (t1) (w 17 (m)) hO ⟨by omega, by omega⟩) dX10_gives_28 q1788 q1789 q1790 q96 q1791 znX6_clear (Nat.le_of_ble_eq_true rfl) (Nat.le_of_ble_eq_true rfl) (Nat.le_of_ble_eq_true rfl) (Nat.le_of_ble_eq_true rfl) (zrec_P hO) rfl rfl (Nat.le_of_ble_eq_true rfl) rfl (fun v9 Q9 h9 => ?_)
    obtain ⟨rfl, rfl⟩ := h9
    obtain ⟨M1, eM1⟩ : ∃ z9 : zMap, zup M out (.inr (6, [.int (iI (clK (w 17 (m)))), .long (lI (0)), .null]) : va_E) = z9 := ⟨_, rfl⟩
    rw [eM1]
    have o6 : M1 b = some (.inr (18, [.ref (σ 20 (m)), .ref (σ 0 (0)), va_rf (xo σ 20 (f)), .ref (σ 0 (0)), .ref (σ 0 (0))])) := eM1 ▸ (zup_n ne2).trans hb
    have o7 : M1 fr = some (.inr (26, [va_rf (sf), .ref (ar), .ref (out), .int (iI (dp))])) := eM1 ▸ (zup_n ne3).trans hFr
    have o8 : M1 vc = some (.inr (6, [.int (iI (k0)), .long (lI (b0)), va_rf (t0)])) := eM1 ▸ (zup_n (fun z9 => hne z9.symm)).trans hV9
    have hX9 : xM θ σ w (xL w) M1 := eM1 ▸ hX.up hOf
    have o10 : M1 out = some (.inr (6, [.int (iI (clK (w 17 (m)))), .long (lI (0)), .null])) := eM1 ▸ zup_s
    refine z_as (st' := []) rfl rfl rfl ?_
    refine z_goto C 56 dX10_gives_31 (by decide) ?_
    exact z_vret C dX10_gives_56 (Nat.le_of_ble_eq_true rfl) (Nat.le_of_ble_eq_true rfl) ⟨rfl, (congrArg (fun M9 => zP θ M9 N) (by rw [← eM1] <;> (try simp only [zup_up]); obtain ⟨g1, g2, g3⟩ := gv_c (r := w 17 m) (t := w 17 f) (k := k0) (b := b0) (u := t0) (by omega); rw [g1, g2, g3] <;> rfl))⟩
  · skip
    rw [xo_y n5]
    refine z_as (st' := [.ref (σ 10 (w 17 (m)))]) (lv' := [(0, .ref (b)), (1, .ref (fr)), (2, .ref (vc))]) rfl rfl rfl ?_
    refine z_ifnull C 10 dX10_gives_7 rfl ?_
    refine z_aload_n C 11 0 dX10_gives_10 rfl rfl ?_
    refine z_callO (owner := RX10) (As := []) (rest := []) C hκ hκl 14 (k16_type_18 hX hs hw hT (b) (m) (f) hb ⟨by omega, by omega⟩ ⟨by omega, by omega⟩ (by omega)) dX10_gives_11 q1110 q1112 q1111 q1138 q1113 q1114 q110 q1115 ⟨by decide, by decide, rfl⟩ (Nat.le_of_ble_eq_true rfl) (Nat.le_of_ble_eq_true rfl) (Nat.le_of_ble_eq_true rfl) (Nat.le_of_ble_eq_true rfl) (zrec_P hb) rfl rfl (Nat.le_of_ble_eq_true rfl) rfl (fun v9 Q9 h9 => ?_)
    obtain ⟨rfl, rfl⟩ := h9
    refine z_as (st' := [va_rf (xo σ 10 (w 17 (f)))]) rfl rfl rfl ?_
    rcases Int.lt_or_le (w 17 (f)) 0 with n11 | n11
    · skip
      rw [xo_n n11]
      refine z_as (st' := [.null]) (lv' := [(0, .ref (b)), (1, .ref (fr)), (2, .ref (vc))]) rfl rfl rfl ?_
      refine z_ifnonnullN C 17 dX10_gives_14 rfl ?_
      refine z_aload_n C 18 1 dX10_gives_17 rfl rfl ?_
      refine z_getf C hκ (v := .ref (out)) 21 2 zk_X26 hFr (by decide) q1750 (Or.inl rfl) rfl dX10_gives_18 rfl ?_
      refine z_aload_n C 22 0 dX10_gives_21 rfl rfl ?_
      refine z_getf C hκ (v := .ref (σ 20 (m))) 25 0 zk_X18 hb (by decide) q772 (Or.inl rfl) rfl dX10_gives_22 rfl ?_
      refine z_getf C hκ (v := va_rf (xo σ 10 (w 17 (m)))) 28 5 zk_X9 (hX.mem (by omega) (by omega)) (by decide) q671 (Or.inl rfl) rfl dX10_gives_25 rfl ?_
      refine z_callV (As := [va_rf (xo σ 10 (w 17 (m)))]) (rest := []) C hκ hκl 31 (k6_clear hX hs hw hT (out) (k1) (b1) (t1) (w 17 (m)) hO ⟨by omega, by omega⟩) dX10_gives_28 q1788 q1789 q1790 q96 q1791 znX6_clear (Nat.le_of_ble_eq_true rfl) (Nat.le_of_ble_eq_true rfl) (Nat.le_of_ble_eq_true rfl) (Nat.le_of_ble_eq_true rfl) (zrec_P hO) rfl rfl (Nat.le_of_ble_eq_true rfl) rfl (fun v9 Q9 h9 => ?_)
      obtain ⟨rfl, rfl⟩ := h9
      obtain ⟨M2, eM2⟩ : ∃ z9 : zMap, zup M out (.inr (6, [.int (iI (clK (w 17 (m)))), .long (lI (0)), .null]) : va_E) = z9 := ⟨_, rfl⟩
      rw [eM2]
      have o12 : M2 b = some (.inr (18, [.ref (σ 20 (m)), .ref (σ 0 (0)), va_rf (xo σ 20 (f)), .ref (σ 0 (0)), .ref (σ 0 (0))])) := eM2 ▸ (zup_n ne2).trans hb
      have o13 : M2 fr = some (.inr (26, [va_rf (sf), .ref (ar), .ref (out), .int (iI (dp))])) := eM2 ▸ (zup_n ne3).trans hFr
      have o14 : M2 vc = some (.inr (6, [.int (iI (k0)), .long (lI (b0)), va_rf (t0)])) := eM2 ▸ (zup_n (fun z9 => hne z9.symm)).trans hV9
      have hX15 : xM θ σ w (xL w) M2 := eM2 ▸ hX.up hOf
      have o16 : M2 out = some (.inr (6, [.int (iI (clK (w 17 (m)))), .long (lI (0)), .null])) := eM2 ▸ zup_s
      refine z_as (st' := []) rfl rfl rfl ?_
      refine z_goto C 56 dX10_gives_31 (by decide) ?_
      exact z_vret C dX10_gives_56 (Nat.le_of_ble_eq_true rfl) (Nat.le_of_ble_eq_true rfl) ⟨rfl, (congrArg (fun M9 => zP θ M9 N) (by rw [← eM2] <;> (try simp only [zup_up]); obtain ⟨g1, g2, g3⟩ := gv_c (r := w 17 m) (t := w 17 f) (k := k0) (b := b0) (u := t0) (by omega); rw [g1, g2, g3] <;> rfl))⟩
    · skip
      rw [xo_y n11]
      refine z_as (st' := [.ref (σ 10 (w 17 (f)))]) (lv' := [(0, .ref (b)), (1, .ref (fr)), (2, .ref (vc))]) rfl rfl rfl ?_
      refine z_ifnonnull C 34 dX10_gives_14 (by decide) ?_
      refine z_aload_n C 35 1 dX10_gives_34 rfl rfl ?_
      refine z_getf C hκ (v := .ref (out)) 38 2 zk_X26 hFr (by decide) q1750 (Or.inl rfl) rfl dX10_gives_35 rfl ?_
      refine z_aload_n C 39 2 dX10_gives_38 rfl rfl ?_
      refine z_callV (As := [.ref (vc)]) (rest := []) C hκ hκl 42 (k6_become hT (out) (k1) (b1) (t1) (vc) (k0) (b0) (t0) hO hV9 hne) dX10_gives_39 q1792 q1575 q1576 q96 q1577 znX6_become (Nat.le_of_ble_eq_true rfl) (Nat.le_of_ble_eq_true rfl) (Nat.le_of_ble_eq_true rfl) (Nat.le_of_ble_eq_true rfl) (zrec_P hO) rfl rfl (Nat.le_of_ble_eq_true rfl) rfl (fun v9 Q9 h9 => ?_)
      obtain ⟨rfl, rfl⟩ := h9
      obtain ⟨M3, eM3⟩ : ∃ z9 : zMap, zup M out (.inr (6, [.int (iI (k0)), .long (lI (b0)), va_rf (t0)]) : va_E) = z9 := ⟨_, rfl⟩
      rw [eM3]
      have o17 : M3 b = some (.inr (18, [.ref (σ 20 (m)), .ref (σ 0 (0)), va_rf (xo σ 20 (f)), .ref (σ 0 (0)), .ref (σ 0 (0))])) := eM3 ▸ (zup_n ne2).trans hb
      have o18 : M3 fr = some (.inr (26, [va_rf (sf), .ref (ar), .ref (out), .int (iI (dp))])) := eM3 ▸ (zup_n ne3).trans hFr
      have o19 : M3 vc = some (.inr (6, [.int (iI (k0)), .long (lI (b0)), va_rf (t0)])) := eM3 ▸ (zup_n (fun z9 => hne z9.symm)).trans hV9
      have hX20 : xM θ σ w (xL w) M3 := eM3 ▸ hX.up hOf
      have o21 : M3 out = some (.inr (6, [.int (iI (k0)), .long (lI (b0)), va_rf (t0)])) := eM3 ▸ zup_s
      refine z_as (st' := []) rfl rfl rfl ?_
      refine z_aload_n C 43 1 dX10_gives_42 rfl rfl ?_
      refine z_getf C hκ (v := .ref (out)) 46 2 zk_X26 o18 (by decide) q1750 (Or.inl rfl) rfl dX10_gives_43 rfl ?_
      refine z_aload_n C 47 0 dX10_gives_46 rfl rfl ?_
      refine z_getf C hκ (v := .ref (σ 20 (m))) 50 0 zk_X18 o17 (by decide) q772 (Or.inl rfl) rfl dX10_gives_47 rfl ?_
      refine z_getf C hκ (v := va_rf (xo σ 10 (w 17 (m)))) 53 5 zk_X9 (hX20.mem (by omega) (by omega)) (by decide) q671 (Or.inl rfl) rfl dX10_gives_50 rfl ?_
      have y22 : 0 ≤ w 17 (m) := (by omega)
      rw [xo_y y22]
      refine z_as (st' := [.ref (σ 10 (w 17 (m))), .ref (out)]) (lv' := [(0, .ref (b)), (1, .ref (fr)), (2, .ref (vc))]) rfl rfl rfl ?_
      refine z_callV (As := [.ref (σ 10 (w 17 (m)))]) (rest := []) C hκ hκl 56 (k6_widenTo hX20 hs hw hT (out) (k0) (b0) (t0) (w 17 (m)) o21 hk r_k0 ⟨by omega, by omega⟩) dX10_gives_53 q1793 q1719 q1720 q96 q1721 znX6_widenTo (Nat.le_of_ble_eq_true rfl) (Nat.le_of_ble_eq_true rfl) (Nat.le_of_ble_eq_true rfl) (Nat.le_of_ble_eq_true rfl) (zrec_P o21) rfl rfl (Nat.le_of_ble_eq_true rfl) rfl (fun v9 Q9 h9 => ?_)
      obtain ⟨rfl, rfl⟩ := h9
      obtain ⟨M4, eM4⟩ : ∃ z9 : zMap, zup M3 out (.inr (6, [.int (iI (wtK (k0) (w 17 (m)))), .long (lI (wtB (k0) (b0) (w 17 (m)))), va_rf (t0)]) : va_E) = z9 := ⟨_, rfl⟩
      rw [eM4]
      have o23 : M4 b = some (.inr (18, [.ref (σ 20 (m)), .ref (σ 0 (0)), va_rf (xo σ 20 (f)), .ref (σ 0 (0)), .ref (σ 0 (0))])) := eM4 ▸ (zup_n ne2).trans o17
      have o24 : M4 fr = some (.inr (26, [va_rf (sf), .ref (ar), .ref (out), .int (iI (dp))])) := eM4 ▸ (zup_n ne3).trans o18
      have o25 : M4 vc = some (.inr (6, [.int (iI (k0)), .long (lI (b0)), va_rf (t0)])) := eM4 ▸ (zup_n (fun z9 => hne z9.symm)).trans o19
      have hX26 : xM θ σ w (xL w) M4 := eM4 ▸ hX20.up hOf
      have o27 : M4 out = some (.inr (6, [.int (iI (wtK (k0) (w 17 (m)))), .long (lI (wtB (k0) (b0) (w 17 (m)))), va_rf (t0)])) := eM4 ▸ zup_s
      refine z_as (st' := []) rfl rfl rfl ?_
      exact z_vret C dX10_gives_56 (Nat.le_of_ble_eq_true rfl) (Nat.le_of_ble_eq_true rfl) ⟨rfl, (congrArg (fun M9 => zP θ M9 N) (by rw [← eM4, ← eM3] <;> (try simp only [zup_up]); obtain ⟨g1, g2, g3⟩ := gv_w (r := w 17 m) (t := w 17 f) (k := k0) (b := b0) (u := t0) (by omega); rw [g1, g2, g3] <;> rfl))⟩
set_option maxRecDepth 100000 in
theorem k10_gives_21 {l : Launch} {θ : zTh} {σ : xA} {w : mW} {M N : zMap} (hX : xM θ σ w (xL w) M) (hs : xS w) (hw : mWF w) (hT : zTb θ) (b : Nat) (m : Int) (x : Int) (y : Int) (fr : Nat) (sf : Option Nat) (ar : Nat) (out : Nat) (dp : Int) (k1 : Int) (b1 : Int) (t1 : Option Nat) (vc : Nat) (k0 : Int) (b0 : Int) (t0 : Option Nat)  (hb : M b = some (.inr (21, [.ref (σ 20 (m)), .ref (σ 0 (0)), .int (iI (x)), .ref (σ 0 (0)), .int (iI (y)), .ref (σ 0 (0))]))) (hm : 0 ≤ m ∧ m < w 11 0) (r_x : inR x) (r_y : inR y) (r_dp : inR dp) (hFr : M fr = some (.inr (26, [va_rf (sf), .ref (ar), .ref (out), .int (iI (dp))]))) (hO : M out = some (.inr (6, [.int (iI (k1)), .long (lI (b1)), va_rf (t1)]))) (hOf : xFr σ w (xL w) out) (hV9 : M vc = some (.inr (6, [.int (iI (k0)), .long (lI (b0)), va_rf (t0)]))) (hne : out ≠ vc) (hk : nmOk k0 b0) (r_k0 : inR k0) (hx0 : 0 ≤ xpI w m x) : ZM θ l yX10_gives cX10_gives 3 none ⟨4, 0, 0, 103⟩ [.ref (b), .ref (fr), .ref (vc)] (zP θ M N) (zFn none (zP θ (zup M out (.inr (6, [.int (iI (gvK (w 17 m) (w 4 (xpI w m x)) k0)), .long (lI (gvB (w 17 m) (w 4 (xpI w m x)) k0 b0)), va_rf (gvT (w 17 m) (w 4 (xpI w m x)) t0)]))) N)) := by
  refine z_start (own := RX10) (nm := "gives") pnX10 rfl rfl (Nat.le_of_ble_eq_true rfl) ?_
  intro κ hκ hκl C
  change Z κ (zP θ M N) 0 0 0 [(0, .ref (b)), (1, .ref (fr)), (2, .ref (vc))] []
  have hS := hs.S
  have hB := hS.B
  obtain ⟨hB1, hB2, hB3, hB4, hB5, hB6⟩ := hS.B
  have hC := hS.C
  obtain ⟨h81, h82⟩ := hs.r8
  obtain ⟨f1a, f1b, f1c, f1d⟩ := hS.M (show 0 ≤ m by omega) (by omega)
  have ne2 : b ≠ out := fun z9 => by have z8 := hb; rw [z9, hO] at z8; cases z8
  have ne3 : fr ≠ out := fun z9 => by have z8 := hFr; rw [z9, hO] at z8; cases z8
  have k17 : -1 ≤ w 17 m := by omega
  have hpx := xpI_r hS (i := x) hm.1 hm.2
  obtain ⟨f4a, f4b, f4c, f4d, f4e, f4f, f4g, f4h⟩ := hS.T (show 0 ≤ xpI w m x by omega) (by omega)
  obtain ⟨f4i, f4j, f4k, f4l⟩ := hs.ty (show 0 ≤ xpI w m x by omega) (by omega)
  have k4 : -1 ≤ w 4 (xpI w m x) := by omega
  refine z_aload_n C 1 0 dX10_gives_0 rfl rfl ?_
  refine z_getf C hκ (v := .ref (σ 20 (m))) 4 0 zk_X21 hb (by decide) q772 (Or.inl rfl) rfl dX10_gives_1 rfl ?_
  refine z_getf C hκ (v := va_rf (xo σ 10 (w 17 (m)))) 7 5 zk_X9 (hX.mem (by omega) (by omega)) (by decide) q671 (Or.inl rfl) rfl dX10_gives_4 rfl ?_
  rcases Int.lt_or_le (w 17 (m)) 0 with n5 | n5
  · skip
    rw [xo_n n5]
    refine z_as (st' := [.null]) (lv' := [(0, .ref (b)), (1, .ref (fr)), (2, .ref (vc))]) rfl rfl rfl ?_
    refine z_ifnullN C 17 dX10_gives_7 (by decide) ?_
    refine z_aload_n C 18 1 dX10_gives_17 rfl rfl ?_
    refine z_getf C hκ (v := .ref (out)) 21 2 zk_X26 hFr (by decide) q1750 (Or.inl rfl) rfl dX10_gives_18 rfl ?_
    refine z_aload_n C 22 0 dX10_gives_21 rfl rfl ?_
    refine z_getf C hκ (v := .ref (σ 20 (m))) 25 0 zk_X21 hb (by decide) q772 (Or.inl rfl) rfl dX10_gives_22 rfl ?_
    refine z_getf C hκ (v := va_rf (xo σ 10 (w 17 (m)))) 28 5 zk_X9 (hX.mem (by omega) (by omega)) (by decide) q671 (Or.inl rfl) rfl dX10_gives_25 rfl ?_
    refine z_callV (As := [va_rf (xo σ 10 (w 17 (m)))]) (rest := []) C hκ hκl 31 (k6_clear hX hs hw hT (out) (k1) (b1) (t1) (w 17 (m)) hO ⟨by omega, by omega⟩) dX10_gives_28 q1788 q1789 q1790 q96 q1791 znX6_clear (Nat.le_of_ble_eq_true rfl) (Nat.le_of_ble_eq_true rfl) (Nat.le_of_ble_eq_true rfl) (Nat.le_of_ble_eq_true rfl) (zrec_P hO) rfl rfl (Nat.le_of_ble_eq_true rfl) rfl (fun v9 Q9 h9 => ?_)
    obtain ⟨rfl, rfl⟩ := h9
    obtain ⟨M1, eM1⟩ : ∃ z9 : zMap, zup M out (.inr (6, [.int (iI (clK (w 17 (m)))), .long (lI (0)), .null]) : va_E) = z9 := ⟨_, rfl⟩
    rw [eM1]
    have o6 : M1 b = some (.inr (21, [.ref (σ 20 (m)), .ref (σ 0 (0)), .int (iI (x)), .ref (σ 0 (0)), .int (iI (y)), .ref (σ 0 (0))])) := eM1 ▸ (zup_n ne2).trans hb
    have o7 : M1 fr = some (.inr (26, [va_rf (sf), .ref (ar), .ref (out), .int (iI (dp))])) := eM1 ▸ (zup_n ne3).trans hFr
    have o8 : M1 vc = some (.inr (6, [.int (iI (k0)), .long (lI (b0)), va_rf (t0)])) := eM1 ▸ (zup_n (fun z9 => hne z9.symm)).trans hV9
    have hX9 : xM θ σ w (xL w) M1 := eM1 ▸ hX.up hOf
    have o10 : M1 out = some (.inr (6, [.int (iI (clK (w 17 (m)))), .long (lI (0)), .null])) := eM1 ▸ zup_s
    refine z_as (st' := []) rfl rfl rfl ?_
    refine z_goto C 56 dX10_gives_31 (by decide) ?_
    exact z_vret C dX10_gives_56 (Nat.le_of_ble_eq_true rfl) (Nat.le_of_ble_eq_true rfl) ⟨rfl, (congrArg (fun M9 => zP θ M9 N) (by rw [← eM1] <;> (try simp only [zup_up]); obtain ⟨g1, g2, g3⟩ := gv_c (r := w 17 m) (t := w 4 (xpI w m x)) (k := k0) (b := b0) (u := t0) (by omega); rw [g1, g2, g3] <;> rfl))⟩
  · skip
    rw [xo_y n5]
    refine z_as (st' := [.ref (σ 10 (w 17 (m)))]) (lv' := [(0, .ref (b)), (1, .ref (fr)), (2, .ref (vc))]) rfl rfl rfl ?_
    refine z_ifnull C 10 dX10_gives_7 rfl ?_
    refine z_aload_n C 11 0 dX10_gives_10 rfl rfl ?_
    refine z_callO (owner := RX10) (As := []) (rest := []) C hκ hκl 14 (k21_type_21 hX hs hw hT (b) (m) (x) (y) hb ⟨by omega, by omega⟩ r_x r_y (by omega)) dX10_gives_11 q1110 q1112 q1111 q1138 q1124 q1125 q115 q1126 ⟨by decide, by decide, rfl⟩ (Nat.le_of_ble_eq_true rfl) (Nat.le_of_ble_eq_true rfl) (Nat.le_of_ble_eq_true rfl) (Nat.le_of_ble_eq_true rfl) (zrec_P hb) rfl rfl (Nat.le_of_ble_eq_true rfl) rfl (fun v9 Q9 h9 => ?_)
    obtain ⟨rfl, rfl⟩ := h9
    refine z_as (st' := [va_rf (xo σ 10 (w 4 (xpI w (m) (x))))]) rfl rfl rfl ?_
    rcases Int.lt_or_le (w 4 (xpI w (m) (x))) 0 with n11 | n11
    · skip
      rw [xo_n n11]
      refine z_as (st' := [.null]) (lv' := [(0, .ref (b)), (1, .ref (fr)), (2, .ref (vc))]) rfl rfl rfl ?_
      refine z_ifnonnullN C 17 dX10_gives_14 rfl ?_
      refine z_aload_n C 18 1 dX10_gives_17 rfl rfl ?_
      refine z_getf C hκ (v := .ref (out)) 21 2 zk_X26 hFr (by decide) q1750 (Or.inl rfl) rfl dX10_gives_18 rfl ?_
      refine z_aload_n C 22 0 dX10_gives_21 rfl rfl ?_
      refine z_getf C hκ (v := .ref (σ 20 (m))) 25 0 zk_X21 hb (by decide) q772 (Or.inl rfl) rfl dX10_gives_22 rfl ?_
      refine z_getf C hκ (v := va_rf (xo σ 10 (w 17 (m)))) 28 5 zk_X9 (hX.mem (by omega) (by omega)) (by decide) q671 (Or.inl rfl) rfl dX10_gives_25 rfl ?_
      refine z_callV (As := [va_rf (xo σ 10 (w 17 (m)))]) (rest := []) C hκ hκl 31 (k6_clear hX hs hw hT (out) (k1) (b1) (t1) (w 17 (m)) hO ⟨by omega, by omega⟩) dX10_gives_28 q1788 q1789 q1790 q96 q1791 znX6_clear (Nat.le_of_ble_eq_true rfl) (Nat.le_of_ble_eq_true rfl) (Nat.le_of_ble_eq_true rfl) (Nat.le_of_ble_eq_true rfl) (zrec_P hO) rfl rfl (Nat.le_of_ble_eq_true rfl) rfl (fun v9 Q9 h9 => ?_)
      obtain ⟨rfl, rfl⟩ := h9
      obtain ⟨M2, eM2⟩ : ∃ z9 : zMap, zup M out (.inr (6, [.int (iI (clK (w 17 (m)))), .long (lI (0)), .null]) : va_E) = z9 := ⟨_, rfl⟩
      rw [eM2]
      have o12 : M2 b = some (.inr (21, [.ref (σ 20 (m)), .ref (σ 0 (0)), .int (iI (x)), .ref (σ 0 (0)), .int (iI (y)), .ref (σ 0 (0))])) := eM2 ▸ (zup_n ne2).trans hb
      have o13 : M2 fr = some (.inr (26, [va_rf (sf), .ref (ar), .ref (out), .int (iI (dp))])) := eM2 ▸ (zup_n ne3).trans hFr
      have o14 : M2 vc = some (.inr (6, [.int (iI (k0)), .long (lI (b0)), va_rf (t0)])) := eM2 ▸ (zup_n (fun z9 => hne z9.symm)).trans hV9
      have hX15 : xM θ σ w (xL w) M2 := eM2 ▸ hX.up hOf
      have o16 : M2 out = some (.inr (6, [.int (iI (clK (w 17 (m)))), .long (lI (0)), .null])) := eM2 ▸ zup_s
      refine z_as (st' := []) rfl rfl rfl ?_
      refine z_goto C 56 dX10_gives_31 (by decide) ?_
      exact z_vret C dX10_gives_56 (Nat.le_of_ble_eq_true rfl) (Nat.le_of_ble_eq_true rfl) ⟨rfl, (congrArg (fun M9 => zP θ M9 N) (by rw [← eM2] <;> (try simp only [zup_up]); obtain ⟨g1, g2, g3⟩ := gv_c (r := w 17 m) (t := w 4 (xpI w m x)) (k := k0) (b := b0) (u := t0) (by omega); rw [g1, g2, g3] <;> rfl))⟩
    · skip
      rw [xo_y n11]
      refine z_as (st' := [.ref (σ 10 (w 4 (xpI w (m) (x))))]) (lv' := [(0, .ref (b)), (1, .ref (fr)), (2, .ref (vc))]) rfl rfl rfl ?_
      refine z_ifnonnull C 34 dX10_gives_14 (by decide) ?_
      refine z_aload_n C 35 1 dX10_gives_34 rfl rfl ?_
      refine z_getf C hκ (v := .ref (out)) 38 2 zk_X26 hFr (by decide) q1750 (Or.inl rfl) rfl dX10_gives_35 rfl ?_
      refine z_aload_n C 39 2 dX10_gives_38 rfl rfl ?_
      refine z_callV (As := [.ref (vc)]) (rest := []) C hκ hκl 42 (k6_become hT (out) (k1) (b1) (t1) (vc) (k0) (b0) (t0) hO hV9 hne) dX10_gives_39 q1792 q1575 q1576 q96 q1577 znX6_become (Nat.le_of_ble_eq_true rfl) (Nat.le_of_ble_eq_true rfl) (Nat.le_of_ble_eq_true rfl) (Nat.le_of_ble_eq_true rfl) (zrec_P hO) rfl rfl (Nat.le_of_ble_eq_true rfl) rfl (fun v9 Q9 h9 => ?_)
      obtain ⟨rfl, rfl⟩ := h9
      obtain ⟨M3, eM3⟩ : ∃ z9 : zMap, zup M out (.inr (6, [.int (iI (k0)), .long (lI (b0)), va_rf (t0)]) : va_E) = z9 := ⟨_, rfl⟩
      rw [eM3]
      have o17 : M3 b = some (.inr (21, [.ref (σ 20 (m)), .ref (σ 0 (0)), .int (iI (x)), .ref (σ 0 (0)), .int (iI (y)), .ref (σ 0 (0))])) := eM3 ▸ (zup_n ne2).trans hb
      have o18 : M3 fr = some (.inr (26, [va_rf (sf), .ref (ar), .ref (out), .int (iI (dp))])) := eM3 ▸ (zup_n ne3).trans hFr
      have o19 : M3 vc = some (.inr (6, [.int (iI (k0)), .long (lI (b0)), va_rf (t0)])) := eM3 ▸ (zup_n (fun z9 => hne z9.symm)).trans hV9
      have hX20 : xM θ σ w (xL w) M3 := eM3 ▸ hX.up hOf
      have o21 : M3 out = some (.inr (6, [.int (iI (k0)), .long (lI (b0)), va_rf (t0)])) := eM3 ▸ zup_s
      refine z_as (st' := []) rfl rfl rfl ?_
      refine z_aload_n C 43 1 dX10_gives_42 rfl rfl ?_
      refine z_getf C hκ (v := .ref (out)) 46 2 zk_X26 o18 (by decide) q1750 (Or.inl rfl) rfl dX10_gives_43 rfl ?_
      refine z_aload_n C 47 0 dX10_gives_46 rfl rfl ?_
      refine z_getf C hκ (v := .ref (σ 20 (m))) 50 0 zk_X21 o17 (by decide) q772 (Or.inl rfl) rfl dX10_gives_47 rfl ?_
      refine z_getf C hκ (v := va_rf (xo σ 10 (w 17 (m)))) 53 5 zk_X9 (hX20.mem (by omega) (by omega)) (by decide) q671 (Or.inl rfl) rfl dX10_gives_50 rfl ?_
      have y22 : 0 ≤ w 17 (m) := (by omega)
      rw [xo_y y22]
      refine z_as (st' := [.ref (σ 10 (w 17 (m))), .ref (out)]) (lv' := [(0, .ref (b)), (1, .ref (fr)), (2, .ref (vc))]) rfl rfl rfl ?_
      refine z_callV (As := [.ref (σ 10 (w 17 (m)))]) (rest := []) C hκ hκl 56 (k6_widenTo hX20 hs hw hT (out) (k0) (b0) (t0) (w 17 (m)) o21 hk r_k0 ⟨by omega, by omega⟩) dX10_gives_53 q1793 q1719 q1720 q96 q1721 znX6_widenTo (Nat.le_of_ble_eq_true rfl) (Nat.le_of_ble_eq_true rfl) (Nat.le_of_ble_eq_true rfl) (Nat.le_of_ble_eq_true rfl) (zrec_P o21) rfl rfl (Nat.le_of_ble_eq_true rfl) rfl (fun v9 Q9 h9 => ?_)
      obtain ⟨rfl, rfl⟩ := h9
      obtain ⟨M4, eM4⟩ : ∃ z9 : zMap, zup M3 out (.inr (6, [.int (iI (wtK (k0) (w 17 (m)))), .long (lI (wtB (k0) (b0) (w 17 (m)))), va_rf (t0)]) : va_E) = z9 := ⟨_, rfl⟩
      rw [eM4]
      have o23 : M4 b = some (.inr (21, [.ref (σ 20 (m)), .ref (σ 0 (0)), .int (iI (x)), .ref (σ 0 (0)), .int (iI (y)), .ref (σ 0 (0))])) := eM4 ▸ (zup_n ne2).trans o17
      have o24 : M4 fr = some (.inr (26, [va_rf (sf), .ref (ar), .ref (out), .int (iI (dp))])) := eM4 ▸ (zup_n ne3).trans o18
      have o25 : M4 vc = some (.inr (6, [.int (iI (k0)), .long (lI (b0)), va_rf (t0)])) := eM4 ▸ (zup_n (fun z9 => hne z9.symm)).trans o19
      have hX26 : xM θ σ w (xL w) M4 := eM4 ▸ hX20.up hOf
      have o27 : M4 out = some (.inr (6, [.int (iI (wtK (k0) (w 17 (m)))), .long (lI (wtB (k0) (b0) (w 17 (m)))), va_rf (t0)])) := eM4 ▸ zup_s
      refine z_as (st' := []) rfl rfl rfl ?_
      exact z_vret C dX10_gives_56 (Nat.le_of_ble_eq_true rfl) (Nat.le_of_ble_eq_true rfl) ⟨rfl, (congrArg (fun M9 => zP θ M9 N) (by rw [← eM4, ← eM3] <;> (try simp only [zup_up]); obtain ⟨g1, g2, g3⟩ := gv_w (r := w 17 m) (t := w 4 (xpI w m x)) (k := k0) (b := b0) (u := t0) (by omega); rw [g1, g2, g3] <;> rfl))⟩
