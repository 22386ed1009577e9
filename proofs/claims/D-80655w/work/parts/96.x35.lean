/-! ===== rows of things, of fields ===== -/
def xFd (w : mW) : Prop := ∀ f : Int, 0 ≤ f → f < w 11 0 → w 16 f = 1 → 0 ≤ w 17 f ∧ (hasB w f 4 = false → w 13 f ≠ 8 ∧ w 1 (w 13 f) ≠ 4)
theorem xmg_9 : zMg "ReflectMirror$Many" "ReflectMirror$One" := zMg_of (by decide +kernel)
/-- what is above a row of things: the root, rows -/
theorem isa_4 {w : mW} (hs : xS w) {t b : Int} (h0 : 0 ≤ t) (h1 : t < w 0 0) (h4 : w 1 t = 4) (hb0 : 0 ≤ b) (hb1 : b < w 0 0) (h : isa w t b = true) : b = 8 ∨ w 1 b = 4 := by
  rw [(hs.1 t h0 h1).2 b hb0 hb1, isaL_eq hs.2.2.1 h0 h1] at h
  have h8 : 8 ≤ t := by
    have := (hs.2.2.1 t h0 h1).2.2.2.2.2.2.2
    omega
  obtain ⟨e1, e2⟩ := (hs.2.2.2.2.2.1 t h0 h1).2.1 h4
  unfold isaS at h
  rw [if_neg (by omega), e2] at h
  by_cases htb : t = b
  · right; rw [← htb]; exact h4
  · have hcl : clT w t = false := by unfold clT; simp [h4]
    have hz : anyN (fun j => isaL w (w 7 (3 * t + (j : Nat))) b) (0 : Int).toNat = false := rfl
    unfold is2S is1S basB rowS at h
    rw [hz, hcl] at h
    simp [htb] at h
    omega
/-- a thing of a field's type is no row -/
theorem fd_one {w : mW} (hs : xS w) (hF : xFd w) {f x : Int} (f0 : 0 ≤ f) (f1 : f < w 11 0) (f2 : w 16 f = 1) (x0 : 0 ≤ x) (x1 : x < w 27 0) (hn : hasB w f 4 = false) (h : isa w (w 28 x) (w 13 f) = true) : w 29 x = -1 := by
  have hX := hs.2.1.X x0 x1
  have hM := hs.2.1.M f0 f1
  by_cases h9 : w 29 x = -1
  · exact h9
  · obtain ⟨a1, -⟩ := hX.2.2 h9
    rcases isa_4 hs (by have := hX.1; omega) hX.1.2 a1 (by have := hM.1; omega) hM.1.2 h with h8 | h8
    · exact absurd h8 ((hF f f0 f1 f2).2 hn).1
    · exact absurd h8 ((hF f f0 f1 f2).2 hn).2
theorem gi_isa {w : mW} {a b : Int} (h : 8 ≤ a) (hb : 8 ≤ b) : giB w a b = isa w a b := by unfold giB; rw [if_neg (by omega)]; simp [hb]
theorem fd_in {w : mW} (hs : xS w) (hF : xFd w) {f x : Int} (f0 : 0 ≤ f) (f1 : f < w 11 0) (f2 : w 16 f = 1) (x0 : 0 ≤ x) (x1 : x < w 27 0) (hn : hasB w f 4 = false) (h : isa w (w 28 x) (w 13 f) = true) : w 13 f ∈ xL w (w 28 x) := by
  have hX := hs.2.1.X x0 x1
  have hM := hs.2.1.M f0 f1
  have h4 : w 1 (w 28 x) ≠ 4 := fun h4 => by
    rcases isa_4 hs (by have := hX.1; omega) hX.1.2 h4 (by have := hM.1; omega) hM.1.2 h with h8 | h8
    · exact absurd h8 ((hF f f0 f1 f2).2 hn).1
    · exact absurd h8 ((hF f f0 f1 f2).2 hn).2
  have e := gi_ref hs hX.1.1 hX.1.2 h4 (by have := hM.1; omega) hM.1.2
  have e2 : giB w (w 28 x) (w 13 f) = isa w (w 28 x) (w 13 f) := by unfold giB; rw [if_neg (by have := hX.1; omega)]; simp [hM.1.1]
  rw [e2, h] at e
  exact of_decide_eq_true e.symm
/-- where a field's value lies -/
def rwA (σ : xA) (w : mW) (f x : Int) : Nat := if hasB w f 4 then σ 23 f else σ 33 (100 * x + f)

set_option maxRecDepth 100000 in
theorem k0_rowOf {l : Launch} {θ : zTh} {σ : xA} {w : mW} {M N : zMap} (hX : xM θ σ w (xL w) M) (hs : xS w) (hw : mWF w) (hT : zTb θ) (hZ : zTx θ l) (m : Int) (x : Int)  (hm : 0 ≤ m ∧ m < w 11 0) (hfd : w 16 m = 1) (hx : -1 ≤ x ∧ x < w 27 0) (hF : xFd w) : zMX θ l yX0_rowOf (ws_ yX0_rowOf cX0_rowOf 3 (some (.object "java/lang/Object"))) ⟨247, 1, 8, 10250⟩ [.ref (σ 0 (0)), .ref (σ 20 (m)), va_rf (xo σ 30 (x))] (zP θ M N) (fun v9 Q9 => v9 = some (.ref (rwA σ w m x)) ∧ agI w m x = 0 ∧ Q9 = zP θ M N) (fun E9 b9 Q9 => ∃ c9 : Int, agI w m x = c9 ∧ c9 ≠ 0 ∧ xEz E9 c9 ∧ Q9 = zP θ M N) := by
  refine zx_start (own := RX0) (nm := "rowOf") pnX0 rfl rfl (by cases (xo σ 30 (x)) <;> exact Nat.le_of_ble_eq_true rfl) ?_
  intro κ hκ hκl C XX
  refine z_as (lv' := [(0, .ref (σ 0 (0))), (1, .ref (σ 20 (m))), (2, va_rf (xo σ 30 (x)))]) rfl (by cases (xo σ 30 (x)) <;> rfl) rfl ?_
  change Z κ (zP θ M N) 0 0 0 [(0, .ref (σ 0 (0))), (1, .ref (σ 20 (m))), (2, va_rf (xo σ 30 (x)))] []
  have hS := hs.S
  have hB := hS.B
  obtain ⟨hB1, hB2, hB3, hB4, hB5, hB6⟩ := hS.B
  have hC := hS.C
  obtain ⟨h81, h82⟩ := hs.r8
  refine z_aload_n C 1 1 dX0_rowOf_0 rfl rfl ?_
  refine z_iconst C 2 dX0_rowOf_1 rfl ?_
  refine z_callV (As := [.int (iI (4))]) (rest := []) C hκ hκl 5 (k9_has hX hs hw hT (m) (4) ⟨by decide, by decide⟩ ⟨by omega, by omega⟩) dX0_rowOf_2 q711 q712 q713 q103 q714 znX9_has (Nat.le_of_ble_eq_true rfl) (Nat.le_of_ble_eq_true rfl) (Nat.le_of_ble_eq_true rfl) (Nat.le_of_ble_eq_true rfl) (zrec_P (hX.mem (by omega) (by omega))) rfl rfl (Nat.le_of_ble_eq_true rfl) rfl (fun v9 Q9 h9 => ?_)
  obtain ⟨rfl, rfl⟩ := h9
  refine z_as (st' := [.int (iI (bI (hasB w (m) (4))))]) rfl rfl rfl ?_
  refine z_ifB_eq C 13 8 dX0_rowOf_5 (by decide) rfl (fun c1 => ?_) (fun c1 => ?_)
  · skip
    refine z_aload_nq C 14 2 dX0_rowOf_13 rfl rfl ?_
    rcases Int.lt_or_le (x) 0 with n2 | n2
    · skip
      rw [xo_n n2]
      refine z_as (st' := [.null]) (lv' := [(0, .ref (σ 0 (0))), (1, .ref (σ 20 (m))), (2, .null)]) rfl rfl rfl ?_
      refine zx_getfN (rest := []) C hκ hκl hT hZ 1 zk_X24 (by decide) q1274 (Or.inl rfl) dX0_rowOf_14 (Nat.le_of_ble_eq_true rfl) (Nat.le_of_ble_eq_true rfl) (Nat.le_of_ble_eq_true rfl) (Nat.le_of_ble_eq_true rfl) (Nat.le_of_ble_eq_true rfl) (fun b9 => ?_)
      refine zx_out C hκ hT XX (fun z9 h9 => by cases h9) ⟨1, (by clear C hκ hκl hS hB hB1 hB2 hB3 hB4 hB5 hB6 hC hw hX hs hT h81 h82; unfold agI; rw [if_neg (by simp_all), if_pos (by omega)]), by decide, Or.inl ⟨rfl, rfl⟩, rfl⟩ (Nat.le_of_ble_eq_true rfl) (Nat.le_of_ble_eq_true rfl)
    · skip
      rw [xo_y n2]
      refine z_as (st' := [.ref (σ 30 (x))]) (lv' := [(0, .ref (σ 0 (0))), (1, .ref (σ 20 (m))), (2, .ref (σ 30 (x)))]) rfl rfl rfl ?_
      obtain ⟨f3a, f3b, f3c⟩ := hS.X (show 0 ≤ x by omega) (by omega)
      refine x_pget (v := .ref (σ 10 (w 28 (x)))) C hκ 17 1 hX (by omega) (by omega) (by decide) rfl q1274 (Or.inl rfl) rfl dX0_rowOf_14 rfl ?_
      refine z_aload_n C 18 1 dX0_rowOf_17 rfl rfl ?_
      obtain ⟨f4a, f4b, f4c, f4d⟩ := hS.M (show 0 ≤ m by omega) (by omega)
      refine z_getf C hκ (v := .ref (σ 10 (w 13 (m)))) 21 1 zk_X9 (hX.mem (by omega) (by omega)) (by decide) q657 (Or.inl rfl) rfl dX0_rowOf_18 rfl ?_
      obtain ⟨f5a, f5b, f5c, f5d, f5e, f5f, f5g, f5h⟩ := hS.T (show 0 ≤ w 28 (x) by omega) (by omega)
      obtain ⟨f5i, f5j, f5k, f5l⟩ := hs.ty (show 0 ≤ w 28 (x) by omega) (by omega)
      obtain ⟨f6a, f6b, f6c, f6d, f6e, f6f, f6g, f6h⟩ := hS.T (show 0 ≤ w 13 (m) by omega) (by omega)
      obtain ⟨f6i, f6j, f6k, f6l⟩ := hs.ty (show 0 ≤ w 13 (m) by omega) (by omega)
      refine xv_is (rest := []) C hκ hκl hX hs hw hT (w 28 (x)) (w 13 (m)) ⟨(by omega), (by omega)⟩ ⟨(by omega), (by omega)⟩ 24 dX0_rowOf_21 q557 (Nat.le_of_ble_eq_true rfl) (Nat.le_of_ble_eq_true rfl) (Nat.le_of_ble_eq_true rfl) (Nat.le_of_ble_eq_true rfl) (Nat.le_of_ble_eq_true rfl) rfl ?_
      refine z_as (st' := [.int (iI (bI (giB w (w 28 (x)) (w 13 (m)))))]) rfl rfl rfl ?_
      refine z_ifB_ne C 35 27 dX0_rowOf_24 (by decide) rfl (fun c7 => ?_) (fun c7 => ?_)
      · skip
        refine z_aload_n C 36 2 dX0_rowOf_35 rfl rfl ?_
        have hnst9 : hasB w m 4 = false := by clear C hκ hκl XX; simp_all
        obtain ⟨hxa9, hxb9, hxc9⟩ := hS.X (show 0 ≤ x by omega) (by omega)
        have hmm9 := (hS.M (m := m) (by omega) (by omega)).1
        have hgi9 : giB w (w 28 x) (w 13 m) = isa w (w 28 x) (w 13 m) := gi_isa (by omega) (by omega)
        have his9 : isa w (w 28 x) (w 13 m) = true := by clear C hκ hκl XX; simp_all
        have hone9 : w 29 x = -1 := fd_one hs hF (by omega) (by omega) hfd (by omega) (by omega) hnst9 his9
        have y8 : w 29 (x) = -1 := hone9
        refine z_castS C hκ 39 (hX.one (by omega) (by omega) y8) rfl q556 dX0_rowOf_36 rfl ?_
        refine z_getf C hκ (v := .ref (σ 31 (x))) 42 3 zk_X24 (hX.one (by omega) (by omega) y8) (by decide) q1270 (Or.inl rfl) rfl dX0_rowOf_39 rfl ?_
        refine z_aload_n C 43 1 dX0_rowOf_42 rfl rfl ?_
        refine z_getfN C hκ hT (v := .int (iI (m))) 46 0 zk_X9 (hX.mem (by omega) (by omega)) (by decide) q655 (Or.inl rfl) rfl dX0_rowOf_43 rfl ?_
        obtain ⟨e9, hv9, fv9, rfl, hw9⟩ := hX.2 31 x (Or.inr (Or.inr (Or.inr (Or.inr (Or.inr (Or.inr (Or.inl ⟨rfl, by omega, by omega, hone9⟩)))))))
        have hmt9 : m.toNat = m.toNat ∧ ((m.toNat : Nat) : Int) = m := ⟨rfl, by omega⟩
        have hin9 : w 13 m ∈ xL w (w 28 x) := fd_in hs hF (by omega) (by omega) hfd (by omega) (by omega) hnst9 his9
        have hfv9 : fv9 m.toNat = some (σ 33 (100 * x + m)) := by have h := hw9 m.toNat (by omega) (by rw [hmt9.2]; exact hfd) (by rw [hmt9.2]; exact hnst9) (by rw [hmt9.2]; exact hin9); rw [hmt9.2] at h; exact h
        refine z_qald C hκ 47 14 hv9 rfl (by omega) (by omega) (by decide) (congrArg va_rf hfv9) dX0_rowOf_46 rfl ?_
        refine z_as (st' := [.ref (σ 33 (100 * x + m))]) rfl rfl rfl ?_
        exact z_aret C dX0_rowOf_47 (Or.inl ⟨_, rfl⟩) (Or.inr ⟨_, rfl⟩) (Nat.le_of_ble_eq_true rfl) (Nat.le_of_ble_eq_true rfl) ⟨(congrArg (fun z9 => some (Value.ref z9)) (by clear C hκ hκl hS hB hB1 hB2 hB3 hB4 hB5 hB6 hC hw hX hs hT h81 h82 f3a f3b f3c f4a f4b f4c f4d f5a f5b f5c f5d f5e f5f f5g f5h f5i f5j f5k f5l f6a f6b f6c f6d f6e f6f f6g f6h f6i f6j f6k f6l; unfold rwA; rw [if_neg (by simp_all)])), (by clear C hκ hκl hS hB hB1 hB2 hB3 hB4 hB5 hB6 hC hw hX hs hT h81 h82 f3a f3b f3c f4a f4b f4c f4d f5a f5b f5c f5d f5e f5f f5g f5h f5i f5j f5k f5l f6a f6b f6c f6d f6e f6f f6g f6h f6i f6j f6k f6l; unfold agI; rw [if_neg (by simp_all), if_neg (by omega), if_neg (by simp_all)]), rfl⟩
      · skip
        have hmm9 := (hS.M (m := m) (by omega) (by omega)).1
        have hxx9 := (hS.X (x := x) (by omega) (by omega)).1
        have hgi9 : giB w (w 28 x) (w 13 m) = isa w (w 28 x) (w 13 m) := gi_isa (by omega) (by omega)
        exact zx_throwI (hh := []) C hκ hκl hT hZ XX dX0_rowOf_27 dX0_rowOf_30 dX0_rowOf_31 dX0_rowOf_34 (Nat.le_of_ble_eq_true rfl) (Nat.le_of_ble_eq_true rfl) (Nat.le_of_ble_eq_true rfl) (Nat.le_of_ble_eq_true rfl) (Nat.le_of_ble_eq_true rfl) (fun b9 => ⟨2, (by clear C hκ hκl hS hB hB1 hB2 hB3 hB4 hB5 hB6 hC hw hX hs hT h81 h82 f3a f3b f3c f4a f4b f4c f4d f5a f5b f5c f5d f5e f5f f5g f5h f5i f5j f5k f5l f6a f6b f6c f6d f6e f6f f6g f6h f6i f6j f6k f6l; unfold agI; rw [if_neg (by simp_all), if_neg (by omega), if_pos (by simp_all)]), by decide, Or.inr (Or.inl ⟨rfl, rfl⟩), rfl⟩)
  · skip
    refine z_aload_n C 9 1 dX0_rowOf_8 rfl rfl ?_
    obtain ⟨f9a, f9b, f9c, f9d⟩ := hS.M (show 0 ≤ m by omega) (by omega)
    refine z_getf C hκ (v := va_rf (if xHasRow w (m) then some (σ 23 (m)) else none)) 12 11 zk_X9 (hX.mem (by omega) (by omega)) (by decide) q685 (Or.inl rfl) rfl dX0_rowOf_9 rfl ?_
    have hst9 : hasB w m 4 = true := by clear C hκ hκl XX; simp_all
    have hrw9 : xHasRow w m = true := by unfold xHasRow; rw [hst9]; simp [hfd]
    rw [show (va_rf (if xHasRow w (m) then some (σ 23 (m)) else none) : Value) = .ref (σ 23 (m)) from (by rw [if_pos hrw9]; rfl : va_rf _ = Value.ref _)]
    exact z_aret C dX0_rowOf_12 (Or.inl ⟨_, rfl⟩) (Or.inr ⟨_, rfl⟩) (Nat.le_of_ble_eq_true rfl) (Nat.le_of_ble_eq_true rfl) ⟨(congrArg (fun z9 => some (Value.ref z9)) (by clear C hκ hκl hS hB hB1 hB2 hB3 hB4 hB5 hB6 hC hw hX hs hT h81 h82 f9a f9b f9c f9d; unfold rwA; rw [if_pos (by simp_all)])), (by clear C hκ hκl hS hB hB1 hB2 hB3 hB4 hB5 hB6 hC hw hX hs hT h81 h82 f9a f9b f9c f9d; unfold agI; rw [if_pos (by simp_all)]), rfl⟩
