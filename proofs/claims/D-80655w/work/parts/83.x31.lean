set_option maxRecDepth 100000 in
theorem k0_need {l : Launch} {θ : zTh} {M N : zMap} (hT : zTb θ) (hZ : zTx θ l) (u : Nat) (h : Bool) (c : Int) (r_c : inR c)  : zMX θ l yX0_need (ws_ yX0_need cX0_need 3 none) ⟨4, 1, 7, 109⟩ [.ref (u), .int (iI (bI (h))), .int (iI (c))] (zP θ M N) (fun v9 Q9 => v9 = none ∧ h = true ∧ Q9 = zP θ M N) (fun E9 b9 Q9 => ¬ (h = true) ∧ ∃ M' : zMap, Q9 = zP θ M' N ∧ zGe M M' ∧ xEr M' b9 E9 c) := by
  refine zx_start (own := RX0) (nm := "need") pnX0 rfl rfl (Nat.le_of_ble_eq_true rfl) ?_
  intro κ hκ hκl C XX
  change Z κ (zP θ M N) 0 0 0 [(0, .ref (u)), (1, .int (iI (bI (h)))), (2, .int (iI (c)))] []
  have ge0 : zGe M M := zGe.rf
  refine z_iload_n C 1 1 dX0_need_0 rfl rfl ?_
  refine z_ifB_ne C 13 4 dX0_need_1 (by decide) rfl (fun c1 => ?_) (fun c1 => ?_)
  · skip
    exact z_vret C dX0_need_13 (Nat.le_of_ble_eq_true rfl) (Nat.le_of_ble_eq_true rfl) ⟨rfl, (by clear C hκ hκl ; simp_all), rfl⟩
  · skip
    refine z_new (fs := [.null, .null, .null, .null, .null, .int (iI (0)), .int (iI (0))]) C hκ 7 zk_X25 q1300 q1495 q130 (fun j9 h9 => match j9, h9 with | 0, _ => rfl | 1, _ => rfl | 2, _ => rfl | 3, _ => rfl | 4, _ => rfl | 5, _ => rfl | 6, _ => rfl | (j9 + 7), h9 => absurd h9 (by omega)) (Nat.le_of_ble_eq_true rfl) (Nat.le_of_ble_eq_true rfl) dX0_need_4 rfl (fun a2 a2M a2N => ?_)
    refine z_widen (n' := 1) (k' := 7) (Nat.le_refl _) (Nat.le_refl _) ?_
    have fr3 : M a2 = none := ge0.no a2M
    obtain ⟨M1, eM1⟩ : ∃ z9 : zMap, zup M a2 (.inr (25, [.null, .null, .null, .null, .null, .int (iI (0)), .int (iI (0))]) : va_E) = z9 := ⟨_, rfl⟩
    rw [eM1]
    have ge4 : zGe M M1 := eM1 ▸ ge0.up fr3
    have o5 : M1 a2 = some (.inr (25, [.null, .null, .null, .null, .null, .int (iI (0)), .int (iI (0))])) := eM1 ▸ zup_s
    refine z_dup C 8 dX0_need_7 rfl rfl ?_
    refine z_iload_n C 9 2 dX0_need_8 rfl rfl ?_
    refine z_callI (As := [.int (iI (c))]) (rest := [.ref (a2)]) C hκ hκl 12 (k25_init_25 hT (a2) (c) r_c hZ o5) dX0_need_9 q1503 q1504 q130 q1505 znX25_init rfl (Nat.le_of_ble_eq_true rfl) (Nat.le_of_ble_eq_true rfl) (Nat.le_of_ble_eq_true rfl) (Nat.le_of_ble_eq_true rfl) rfl (Nat.le_of_ble_eq_true rfl) rfl (fun v9 Q9 h9 => ?_)
    obtain ⟨rfl, rfl⟩ := h9
    obtain ⟨M2, eM2⟩ : ∃ z9 : zMap, zup M1 a2 (.inr (25, [.null, .null, .null, .null, .null, .int (iI (0)), .int (iI (c))]) : va_E) = z9 := ⟨_, rfl⟩
    rw [eM2]
    have ge6 : zGe M M2 := eM2 ▸ ge4.up fr3
    have o7 : M2 a2 = some (.inr (25, [.null, .null, .null, .null, .null, .int (iI (0)), .int (iI (c))])) := eM2 ▸ zup_s
    refine z_as (st' := [.ref (a2)]) rfl rfl rfl ?_
    refine zx_athrow C hκ o7 rfl dX0_need_12 ?_
    refine zx_out C hκ hT XX (fun z9 h9 => by cases h9) ⟨(by clear C hκ hκl ; simp_all), M2, rfl, ge6, rfl, o7⟩ (Nat.le_of_ble_eq_true rfl) (Nat.le_of_ble_eq_true rfl)
set_option maxRecDepth 100000 in
theorem k0_references {l : Launch} {θ : zTh} {σ : xA} {w : mW} {M N : zMap} (hT : zTb θ) (hZ : zTx θ l) (a : Nat) (t : Int) (ln : Nat) (v : Nat → Int) (e : va_E)  (hM : M a = some e) (hr : xRow θ σ w t ln v e) : zMX θ l yX0_references (ws_ yX0_references cX0_references 1 (some (.array (.object "ReflectMirror$Thing")))) ⟨9, 1, 6, 10250⟩ [.ref (a)] (zP θ M N) (fun v9 Q9 => v9 = some (.ref a) ∧ 8 ≤ t ∧ Q9 = zP θ M N) (fun E9 b9 Q9 => t < 8 ∧ xEz E9 2 ∧ Q9 = zP θ M N) := by
  refine zx_start (own := RX0) (nm := "references") pnX0 rfl rfl (Nat.le_of_ble_eq_true rfl) ?_
  intro κ hκ hκl C XX
  change Z κ (zP θ M N) 0 0 0 [(0, .ref (a))] []
  refine z_aload_n C 1 0 dX0_references_0 rfl rfl ?_
  rcases hr with ⟨r1, r2, g, rfl, r3⟩ | ⟨r1, g, rfl, r3⟩ | ⟨r1, g, rfl, r3⟩ | ⟨r1, g, rfl, r3⟩ | ⟨r1, g, rfl, r3⟩
  · skip
    rcases (show t = 0 ∨ t = 1 ∨ t = 2 ∨ t = 3 ∨ t = 4 by omega) with rfl | rfl | rfl | rfl | rfl
    · skip
      refine z_instAN C hκ hT 4 0 hM rfl rfl (by decide +kernel) q1573 dX0_references_1 rfl ?_
      refine z_as (st' := [.int (iI (bI (false)))]) rfl rfl rfl ?_
      refine z_ifB_ne C 15 7 dX0_references_4 (by decide) rfl (fun c1 => absurd c1 (by decide)) (fun c1 => ?_)
      exact zx_throwI (hh := []) C hκ hκl hT hZ XX dX0_references_7 dX0_references_10 dX0_references_11 dX0_references_14 (Nat.le_of_ble_eq_true rfl) (Nat.le_of_ble_eq_true rfl) (Nat.le_of_ble_eq_true rfl) (Nat.le_of_ble_eq_true rfl) (Nat.le_of_ble_eq_true rfl) (fun b9 => ⟨(by first | decide | omega), Or.inr (Or.inl ⟨rfl, rfl⟩), rfl⟩)
    · skip
      refine z_instAN C hκ hT 4 1 hM rfl rfl (by decide +kernel) q1573 dX0_references_1 rfl ?_
      refine z_as (st' := [.int (iI (bI (false)))]) rfl rfl rfl ?_
      refine z_ifB_ne C 15 7 dX0_references_4 (by decide) rfl (fun c2 => absurd c2 (by decide)) (fun c2 => ?_)
      exact zx_throwI (hh := []) C hκ hκl hT hZ XX dX0_references_7 dX0_references_10 dX0_references_11 dX0_references_14 (Nat.le_of_ble_eq_true rfl) (Nat.le_of_ble_eq_true rfl) (Nat.le_of_ble_eq_true rfl) (Nat.le_of_ble_eq_true rfl) (Nat.le_of_ble_eq_true rfl) (fun b9 => ⟨(by first | decide | omega), Or.inr (Or.inl ⟨rfl, rfl⟩), rfl⟩)
    · skip
      refine z_instAN C hκ hT 4 2 hM rfl rfl (by decide +kernel) q1573 dX0_references_1 rfl ?_
      refine z_as (st' := [.int (iI (bI (false)))]) rfl rfl rfl ?_
      refine z_ifB_ne C 15 7 dX0_references_4 (by decide) rfl (fun c3 => absurd c3 (by decide)) (fun c3 => ?_)
      exact zx_throwI (hh := []) C hκ hκl hT hZ XX dX0_references_7 dX0_references_10 dX0_references_11 dX0_references_14 (Nat.le_of_ble_eq_true rfl) (Nat.le_of_ble_eq_true rfl) (Nat.le_of_ble_eq_true rfl) (Nat.le_of_ble_eq_true rfl) (Nat.le_of_ble_eq_true rfl) (fun b9 => ⟨(by first | decide | omega), Or.inr (Or.inl ⟨rfl, rfl⟩), rfl⟩)
    · skip
      refine z_instAN C hκ hT 4 3 hM rfl rfl (by decide +kernel) q1573 dX0_references_1 rfl ?_
      refine z_as (st' := [.int (iI (bI (false)))]) rfl rfl rfl ?_
      refine z_ifB_ne C 15 7 dX0_references_4 (by decide) rfl (fun c4 => absurd c4 (by decide)) (fun c4 => ?_)
      exact zx_throwI (hh := []) C hκ hκl hT hZ XX dX0_references_7 dX0_references_10 dX0_references_11 dX0_references_14 (Nat.le_of_ble_eq_true rfl) (Nat.le_of_ble_eq_true rfl) (Nat.le_of_ble_eq_true rfl) (Nat.le_of_ble_eq_true rfl) (Nat.le_of_ble_eq_true rfl) (fun b9 => ⟨(by first | decide | omega), Or.inr (Or.inl ⟨rfl, rfl⟩), rfl⟩)
    · skip
      refine z_instAN C hκ hT 4 4 hM rfl rfl (by decide +kernel) q1573 dX0_references_1 rfl ?_
      refine z_as (st' := [.int (iI (bI (false)))]) rfl rfl rfl ?_
      refine z_ifB_ne C 15 7 dX0_references_4 (by decide) rfl (fun c5 => absurd c5 (by decide)) (fun c5 => ?_)
      exact zx_throwI (hh := []) C hκ hκl hT hZ XX dX0_references_7 dX0_references_10 dX0_references_11 dX0_references_14 (Nat.le_of_ble_eq_true rfl) (Nat.le_of_ble_eq_true rfl) (Nat.le_of_ble_eq_true rfl) (Nat.le_of_ble_eq_true rfl) (Nat.le_of_ble_eq_true rfl) (fun b9 => ⟨(by first | decide | omega), Or.inr (Or.inl ⟨rfl, rfl⟩), rfl⟩)
  · skip
    subst r1
    refine z_instAN C hκ hT 4 5 hM rfl rfl (by decide +kernel) q1573 dX0_references_1 rfl ?_
    refine z_as (st' := [.int (iI (bI (false)))]) rfl rfl rfl ?_
    refine z_ifB_ne C 15 7 dX0_references_4 (by decide) rfl (fun c6 => absurd c6 (by decide)) (fun c6 => ?_)
    exact zx_throwI (hh := []) C hκ hκl hT hZ XX dX0_references_7 dX0_references_10 dX0_references_11 dX0_references_14 (Nat.le_of_ble_eq_true rfl) (Nat.le_of_ble_eq_true rfl) (Nat.le_of_ble_eq_true rfl) (Nat.le_of_ble_eq_true rfl) (Nat.le_of_ble_eq_true rfl) (fun b9 => ⟨(by first | decide | omega), Or.inr (Or.inl ⟨rfl, rfl⟩), rfl⟩)
  · skip
    subst r1
    refine z_instAN C hκ hT 4 6 hM rfl rfl (by decide +kernel) q1573 dX0_references_1 rfl ?_
    refine z_as (st' := [.int (iI (bI (false)))]) rfl rfl rfl ?_
    refine z_ifB_ne C 15 7 dX0_references_4 (by decide) rfl (fun c7 => absurd c7 (by decide)) (fun c7 => ?_)
    exact zx_throwI (hh := []) C hκ hκl hT hZ XX dX0_references_7 dX0_references_10 dX0_references_11 dX0_references_14 (Nat.le_of_ble_eq_true rfl) (Nat.le_of_ble_eq_true rfl) (Nat.le_of_ble_eq_true rfl) (Nat.le_of_ble_eq_true rfl) (Nat.le_of_ble_eq_true rfl) (fun b9 => ⟨(by first | decide | omega), Or.inr (Or.inl ⟨rfl, rfl⟩), rfl⟩)
  · skip
    subst r1
    refine z_instAN C hκ hT 4 7 hM rfl rfl (by decide +kernel) q1573 dX0_references_1 rfl ?_
    refine z_as (st' := [.int (iI (bI (false)))]) rfl rfl rfl ?_
    refine z_ifB_ne C 15 7 dX0_references_4 (by decide) rfl (fun c8 => absurd c8 (by decide)) (fun c8 => ?_)
    exact zx_throwI (hh := []) C hκ hκl hT hZ XX dX0_references_7 dX0_references_10 dX0_references_11 dX0_references_14 (Nat.le_of_ble_eq_true rfl) (Nat.le_of_ble_eq_true rfl) (Nat.le_of_ble_eq_true rfl) (Nat.le_of_ble_eq_true rfl) (Nat.le_of_ble_eq_true rfl) (fun b9 => ⟨(by first | decide | omega), Or.inr (Or.inl ⟨rfl, rfl⟩), rfl⟩)
  · skip
    have hx9 : xcA θ w t = θ.2.1 10 ∨ xcA θ w t = θ.2.1 13 ∨ xcA θ w t = θ.2.1 12 := by unfold xcA; split; exact Or.inl rfl; split; exact Or.inr (Or.inl rfl); exact Or.inr (Or.inr rfl)
    rcases hx9 with hx9 | hx9 | hx9 <;> rw [hx9] at hM
    · skip
      refine z_instA C hκ 4 10 hM rfl rfl q1573 dX0_references_1 rfl ?_
      refine z_as (st' := [.int (iI (bI (true)))]) rfl rfl rfl ?_
      refine z_ifB_ne C 15 7 dX0_references_4 (by decide) rfl (fun c9 => ?_) (fun c9 => absurd c9 (by decide))
      refine z_aload_n C 16 0 dX0_references_15 rfl rfl ?_
      refine z_castA C hκ 19 10 hM rfl rfl q1573 dX0_references_16 rfl ?_
      exact z_aret C dX0_references_19 (Or.inr ⟨_, rfl⟩) (Or.inr ⟨_, rfl⟩) (Nat.le_of_ble_eq_true rfl) (Nat.le_of_ble_eq_true rfl) ⟨rfl, r1, rfl⟩
    · skip
      refine z_instAY C hκ 4 13 hM rfl hT.2.2.2.1 q1573 dX0_references_1 rfl ?_
      refine z_as (st' := [.int (iI (bI (true)))]) rfl rfl rfl ?_
      refine z_ifB_ne C 15 7 dX0_references_4 (by decide) rfl (fun c10 => ?_) (fun c10 => absurd c10 (by decide))
      refine z_aload_n C 16 0 dX0_references_15 rfl rfl ?_
      refine z_castAY C hκ 19 13 hM rfl hT.2.2.2.1 q1573 dX0_references_16 rfl ?_
      exact z_aret C dX0_references_19 (Or.inr ⟨_, rfl⟩) (Or.inr ⟨_, rfl⟩) (Nat.le_of_ble_eq_true rfl) (Nat.le_of_ble_eq_true rfl) ⟨rfl, r1, rfl⟩
    · skip
      refine z_instAY C hκ 4 12 hM rfl hT.2.2.1 q1573 dX0_references_1 rfl ?_
      refine z_as (st' := [.int (iI (bI (true)))]) rfl rfl rfl ?_
      refine z_ifB_ne C 15 7 dX0_references_4 (by decide) rfl (fun c11 => ?_) (fun c11 => absurd c11 (by decide))
      refine z_aload_n C 16 0 dX0_references_15 rfl rfl ?_
      refine z_castAY C hκ 19 12 hM rfl hT.2.2.1 q1573 dX0_references_16 rfl ?_
      exact z_aret C dX0_references_19 (Or.inr ⟨_, rfl⟩) (Or.inr ⟨_, rfl⟩) (Nat.le_of_ble_eq_true rfl) (Nat.le_of_ble_eq_true rfl) ⟨rfl, r1, rfl⟩
