theorem lvS {w : mW} {Lf : Int → List Int} {s : Int} (h0 : 0 ≤ s) (h1 : s < 8) : xLv w Lf 40 s := Or.inr (Or.inr (Or.inr (Or.inr (Or.inr (Or.inr (Or.inr (Or.inr (Or.inr ⟨rfl, h0, h1⟩))))))))
theorem xM.ne {θ : zTh} {σ : xA} {w : mW} {Lf : Int → List Int} {M : zMap} (hX : xM θ σ w Lf M) {k k' : Nat} {i j : Int} (h1 : xLv w Lf k i) (h2 : xLv w Lf k' j) (h : k ≠ k') : σ k i ≠ σ k' j := fun e => h (hX.1 _ _ _ _ h1 h2 e).1
theorem x_aXf {κ : zK} {own nm : String} {cc : ByteArray} {nL : Nat} {ret : Option FieldType} {rm : Room} {P : Option Value → (Heap → Prop) → Prop} {n k pc : Nat} {lv : List (Nat × Value)} {rest : List Value} {θ : zTh} {σ : xA} {w : mW} {Lf : Int → List Int} {M M2 N : zMap} {a : Nat} (C : ZC κ own nm cc nL ret rm P) (hκ : κ.1 = θ) {i : Int} (q : Nat) (hX : xM θ σ w Lf M) (hf : zFx a M M2) (ha : σ 3 0 ≠ a) (hs : xS w) (h0 : 0 ≤ i) (h1 : i < w 27 0) (d : decode cc pc = .ok (.aaload, 1)) (hq : pc + 1 = q) (kk : Z κ (zP θ M2 N) n k q lv (.ref (σ 30 i) :: rest)) : Z κ (zP θ M2 N) n k pc lv (.int (iI i) :: .ref (σ 3 0) :: rest) := by
  obtain ⟨e, g1, f, rfl, g3⟩ := hX.g (k := 3) (by decide)
  have hB := hs.S.B.2.2.2.2.2
  refine z_qald C hκ (v := .ref (σ 30 i)) q 10 (hf _ _ g1 ha) rfl h0 (by omega) (by decide) ?_ d hq kk
  have e : ((i.toNat : Nat) : Int) = i := by omega
  rw [g3 i.toNat (by omega), e]; rfl

set_option maxRecDepth 100000 in
theorem k0_thingAt_S {l : Launch} {θ : zTh} {σ : xA} {w : mW} {Lf : Int → List Int} {M N : zMap} (hX : xM θ σ w (Lf) M) (hs : xS w) (hw : mWF w) (hT : zTb θ) (x : Int) (s9 : Int) (M2 : zMap) (r_x : inR x) (hx : -1 ≤ x ∧ x < w 27 0) (hs9 : 0 ≤ s9 ∧ s9 < 8) (hfx : zFx (σ 40 s9) M M2) : ZM θ l yX0_thingAt cX0_thingAt 2 (some (.object "ReflectMirror$Thing")) ⟨0, 0, 0, 0⟩ [.ref (σ 0 (0)), .int (iI (x))] (zP θ M2 N) (zFn (some (va_rf (xo σ 30 (x)))) (zP θ M2 N)) := by
  refine z_start (own := RX0) (nm := "thingAt") pnX0 rfl rfl (Nat.le_of_ble_eq_true rfl) ?_
  intro κ hκ hκl C
  change Z κ (zP θ M2 N) 0 0 0 [(0, .ref (σ 0 (0))), (1, .int (iI (x)))] []
  have hS := hs.S
  have hB := hS.B
  obtain ⟨hB1, hB2, hB3, hB4, hB5, hB6⟩ := hS.B
  have hC := hS.C
  obtain ⟨h81, h82⟩ := hs.r8
  refine z_iload_n C 1 1 dX0_thingAt_0 rfl rfl ?_
  refine z_iconst C 2 dX0_thingAt_1 rfl ?_
  refine z_icmp_ne C 9 5 dX0_thingAt_2 (by decide) r_x ⟨by decide, by decide⟩ rfl (fun c1 => ?_) (fun c1 => ?_)
  · skip
    refine z_aload_n C 10 0 dX0_thingAt_9 rfl rfl ?_
    refine z_getf C hκ (v := .ref (σ 3 (0))) 13 5 zk_X0 (hfx _ _ hX.o (hX.ne (Or.inl ⟨by decide, rfl⟩) (lvS hs9.1 hs9.2) (by decide))) (by decide) q332 (Or.inl rfl) rfl dX0_thingAt_10 rfl ?_
    refine z_iload_n C 14 1 dX0_thingAt_13 rfl rfl ?_
    refine x_aXf C hκ 15 hX hfx (hX.ne (Or.inl ⟨by decide, rfl⟩) (lvS hs9.1 hs9.2) (by decide)) hs (by omega) (by omega) dX0_thingAt_14 rfl ?_
    exact z_aret C dX0_thingAt_15 (Or.inl ⟨_, rfl⟩) (Or.inr ⟨_, rfl⟩) (Nat.le_of_ble_eq_true rfl) (Nat.le_of_ble_eq_true rfl) ⟨congrArg some (by rw [xo_y (by omega)]; rfl), rfl⟩
  · skip
    refine z_null C 6 dX0_thingAt_5 rfl ?_
    refine z_goto C 15 dX0_thingAt_6 (by decide) ?_
    exact z_aret C dX0_thingAt_15 (Or.inl ⟨_, rfl⟩) (Or.inl rfl) (Nat.le_of_ble_eq_true rfl) (Nat.le_of_ble_eq_true rfl) ⟨congrArg some (by rw [xo_n (by omega)]; rfl), rfl⟩
set_option maxRecDepth 100000 in
theorem k0_slot {l : Launch} {θ : zTh} {σ : xA} {w : mW} {M N : zMap} (hX : xM θ σ w (xL w) M) (hs : xS w) (hw : mWF w) (hT : zTb θ) (s : Int) (a : Int) (b : Int) (r_s : inR s) (r_a : inR a) (r_b : inL b)  : ZM θ l yX0_slot cX0_slot 6 (some .int) ⟨2, 0, 0, 48⟩ [.ref (σ 0 (0)), .int (iI (s)), .int (iI (a)), .long (lI (b))] (zP θ M N) (xOp θ σ N (if slR w s a b then 1 else -1) (if slR w s a b then layW w s a b else w)) := by
  refine z_start (own := RX0) (nm := "slot") pnX0 rfl rfl (Nat.le_of_ble_eq_true rfl) ?_
  intro κ hκ hκl C
  change Z κ (zP θ M N) 0 0 0 [(0, .ref (σ 0 (0))), (1, .int (iI (s))), (2, .int (iI (a))), (3, .long (lI (b)))] []
  have hS := hs.S
  have hB := hS.B
  obtain ⟨hB1, hB2, hB3, hB4, hB5, hB6⟩ := hS.B
  have hC := hS.C
  obtain ⟨h81, h82⟩ := hs.r8
  refine z_iload_n C 1 1 dX0_slot_0 rfl rfl ?_
  refine z_callS (As := [.int (iI (s))]) (rest := []) C hκ hκl 4 (k0_isSlot hT (s) r_s) dX0_slot_1 q1906 q1907 q90 q1908 znX0_isSlot (Nat.le_of_ble_eq_true rfl) (Nat.le_of_ble_eq_true rfl) (Nat.le_of_ble_eq_true rfl) (Nat.le_of_ble_eq_true rfl) rfl (Nat.le_of_ble_eq_true rfl) rfl (fun v9 Q9 h9 => ?_)
  obtain ⟨rfl, rfl⟩ := h9
  refine z_as (st' := [.int (iI (bI (slB (s))))]) rfl rfl rfl ?_
  refine z_ifB_eq C 28 7 dX0_slot_4 (by decide) rfl (fun c1 => ?_) (fun c1 => ?_)
  · skip
    have c1b : ¬ (0 ≤ (s) ∧ (s) < 8) := of_decide_eq_false c1
    refine z_iconst C 29 dX0_slot_28 rfl ?_
    exact z_iret C dX0_slot_29 rfl (Nat.le_of_ble_eq_true rfl) (Nat.le_of_ble_eq_true rfl) (by have h8 : slR w s a b = false := (by unfold slR; first | (simp_all; done) | grind); rw [if_neg (by simp [h8]), if_neg (by simp [h8])]; exact xOp_same hX)
  · skip
    have c1b : (0 ≤ (s) ∧ (s) < 8) := of_decide_eq_true c1
    refine z_iload_n C 8 2 dX0_slot_7 rfl rfl ?_
    refine z_i2l C 9 dX0_slot_8 r_a rfl ?_
    refine z_lconst (x := 0) C 10 dX0_slot_9 rfl rfl ?_
    refine z_ldc2 (z := 8) C 13 dX0_slot_10 q799 (by decide) rfl ?_
    refine z_callS (As := [.long (lI (a)), .long (lI (0)), .long (lI (8))]) (rest := []) C hκ hκl 16 (k0_isIn hT (a) (0) (8) (inR_L r_a) ⟨by decide, by decide⟩ ⟨by decide, by decide⟩) dX0_slot_13 q378 q379 q90 q380 znX0_isIn (Nat.le_of_ble_eq_true rfl) (Nat.le_of_ble_eq_true rfl) (Nat.le_of_ble_eq_true rfl) (Nat.le_of_ble_eq_true rfl) rfl (Nat.le_of_ble_eq_true rfl) rfl (fun v9 Q9 h9 => ?_)
    obtain ⟨rfl, rfl⟩ := h9
    refine z_as (st' := [.int (iI (bI (decide ((0) ≤ (a) ∧ (a) ≤ (8)))))]) rfl rfl rfl ?_
    refine z_ifB_eq C 28 19 dX0_slot_16 (by decide) rfl (fun c2 => ?_) (fun c2 => ?_)
    · skip
      have c2b : ¬ (((0) ≤ (a) ∧ (a) ≤ (8))) := of_decide_eq_false c2
      refine z_iconst C 29 dX0_slot_28 rfl ?_
      exact z_iret C dX0_slot_29 rfl (Nat.le_of_ble_eq_true rfl) (Nat.le_of_ble_eq_true rfl) (by have h8 : slR w s a b = false := (by unfold slR; first | (simp_all; done) | grind); rw [if_neg (by simp [h8]), if_neg (by simp [h8])]; exact xOp_same hX)
    · skip
      have c2b : (((0) ≤ (a) ∧ (a) ≤ (8))) := of_decide_eq_true c2
      refine z_aload_n C 20 0 dX0_slot_19 rfl rfl ?_
      refine z_iload_n C 21 2 dX0_slot_20 rfl rfl ?_
      refine z_lload_n C 22 3 dX0_slot_21 rfl rfl ?_
      refine z_callV (As := [.int (iI (a)), .long (lI (b))]) (rest := []) C hκ hκl 25 (k0_isFit hX hs hw hT (a) (b) r_a r_b ⟨by omega, by omega⟩) dX0_slot_22 q1910 q1912 qs32 q90 q1913 znX0_isFit (Nat.le_of_ble_eq_true rfl) (Nat.le_of_ble_eq_true rfl) (Nat.le_of_ble_eq_true rfl) (Nat.le_of_ble_eq_true rfl) (zrec_P hX.o) rfl rfl (Nat.le_of_ble_eq_true rfl) rfl (fun v9 Q9 h9 => ?_)
      obtain ⟨rfl, rfl⟩ := h9
      refine z_as (st' := [.int (iI (bI (ftB w (a) (b))))]) rfl rfl rfl ?_
      refine z_ifB_ne C 30 28 dX0_slot_25 (by decide) rfl (fun c3 => ?_) (fun c3 => ?_)
      · skip
        have hft : ftB w a b = true := by assumption
        refine z_aload_n C 31 0 dX0_slot_30 rfl rfl ?_
        refine z_getf C hκ (v := .ref (σ 4 (0))) 34 7 zk_X0 hX.o (by decide) q334 (Or.inl rfl) rfl dX0_slot_31 rfl ?_
        refine z_iload_n C 35 1 dX0_slot_34 rfl rfl ?_
        refine x_aS C hκ 36 hX (by omega) (by omega) dX0_slot_35 rfl ?_
        refine z_astore (lv' := [(0, .ref (σ 0 (0))), (1, .int (iI (s))), (2, .int (iI (a))), (3, .long (lI (b))), (5, .ref (σ 40 (s)))]) C 38 [1, 2, 3, 4, 0] dX0_slot_36 (by decide) rfl rfl ?_
        refine z_aload C 40 4 dX0_slot_38 rfl rfl ?_
        refine z_iload_n C 41 2 dX0_slot_40 rfl rfl ?_
        refine z_putf (fs' := [.int (iI (a)), .long (lI (if w 32 (s) = 8 then 0 else w 33 (s))), va_rf (if w 32 (s) = 8 then xo σ 30 (w 33 (s)) else none)]) C hκ 44 0 zk_X6 (hX.slot (by omega) (by omega)) (by decide) q247 (Or.inl rfl) rfl rfl rfl (Nat.le_of_ble_eq_true rfl) rfl dX0_slot_41 rfl ?_
        obtain ⟨M1, eM1⟩ : ∃ z9 : zMap, zup M (σ 40 (s)) (.inr (6, [.int (iI (a)), .long (lI (if w 32 (s) = 8 then 0 else w 33 (s))), va_rf (if w 32 (s) = 8 then xo σ 30 (w 33 (s)) else none)]) : va_E) = z9 := ⟨_, rfl⟩
        rw [eM1]
        have o4 : M1 (σ 40 (s)) = some (.inr (6, [.int (iI (a)), .long (lI (if w 32 (s) = 8 then 0 else w 33 (s))), va_rf (if w 32 (s) = 8 then xo σ 30 (w 33 (s)) else none)])) := eM1 ▸ zup_s
        have fx5 : zFx (σ 40 (s)) M M1 := eM1 ▸ (show zFx (σ 40 (s)) M M from zFx.rf).up (Or.inr rfl)
        refine z_aload C 46 4 dX0_slot_44 rfl rfl ?_
        refine z_iload_n C 47 2 dX0_slot_46 rfl rfl ?_
        refine z_bipush C 49 dX0_slot_47 (by decide) rfl ?_
        refine z_icmp_ne C 56 52 dX0_slot_49 (by decide) r_a ⟨by decide, by decide⟩ rfl (fun c6 => ?_) (fun c6 => ?_)
        · skip
          refine z_lload_n C 57 3 dX0_slot_56 rfl rfl ?_
          refine z_putf (fs' := [.int (iI (a)), .long (lI (b)), va_rf (if w 32 (s) = 8 then xo σ 30 (w 33 (s)) else none)]) C hκ 60 1 zk_X6 o4 (by decide) q250 (Or.inl rfl) rfl rfl rfl (Nat.le_of_ble_eq_true rfl) rfl dX0_slot_57 rfl ?_
          obtain ⟨M2, eM2⟩ : ∃ z9 : zMap, zup M1 (σ 40 (s)) (.inr (6, [.int (iI (a)), .long (lI (b)), va_rf (if w 32 (s) = 8 then xo σ 30 (w 33 (s)) else none)]) : va_E) = z9 := ⟨_, rfl⟩
          rw [eM2]
          have o7 : M2 (σ 40 (s)) = some (.inr (6, [.int (iI (a)), .long (lI (b)), va_rf (if w 32 (s) = 8 then xo σ 30 (w 33 (s)) else none)])) := eM2 ▸ zup_s
          have fx8 : zFx (σ 40 (s)) M M2 := eM2 ▸ (show zFx (σ 40 (s)) M M1 from fx5).up (Or.inr rfl)
          refine z_aload C 62 4 dX0_slot_60 rfl rfl ?_
          refine z_iload_n C 63 2 dX0_slot_62 rfl rfl ?_
          refine z_bipush C 65 dX0_slot_63 (by decide) rfl ?_
          refine z_icmp_ne C 77 68 dX0_slot_65 (by decide) r_a ⟨by decide, by decide⟩ rfl (fun c9 => ?_) (fun c9 => ?_)
          · skip
            refine z_null C 78 dX0_slot_77 rfl ?_
            refine z_putf (fs' := [.int (iI (a)), .long (lI (b)), .null]) C hκ 81 2 zk_X6 o7 (by decide) q254 (Or.inl rfl) rfl rfl rfl (Nat.le_of_ble_eq_true rfl) rfl dX0_slot_78 rfl ?_
            obtain ⟨M3, eM3⟩ : ∃ z9 : zMap, zup M2 (σ 40 (s)) (.inr (6, [.int (iI (a)), .long (lI (b)), .null]) : va_E) = z9 := ⟨_, rfl⟩
            rw [eM3]
            have o10 : M3 (σ 40 (s)) = some (.inr (6, [.int (iI (a)), .long (lI (b)), .null])) := eM3 ▸ zup_s
            have fx11 : zFx (σ 40 (s)) M M3 := eM3 ▸ (show zFx (σ 40 (s)) M M2 from fx8).up (Or.inr rfl)
            have hX2 : xM θ σ (layW w s a b) (xL (layW w s a b)) M3 := by
              rw [← eM3, ← eM2, ← eM1, zup_up, zup_up, show xL (layW w s a b) = xL w from xL_eq (fun _ => rfl) (fun _ => rfl) (fun _ => rfl) (fun _ => rfl)]
              refine xM.set1 (k0 := 40) (i0 := s) hX (lvS (by omega) (by omega)) (fun k9 i9 h9 => h9) (?_ : _ = _) (fun k9 i9 e9 hl9 hn9 h9 => ?_)
              · have h32 : layW w s a b 32 s = a := by simp [layW, mset]
                have h33 : layW w s a b 33 s = b := by simp [layW, mset]
                rw [h32, h33]; first | (exfalso; omega) | (rw [if_neg (by omega), if_neg (by omega)]; rfl)
              · rcases xLv_k hl9 with rfl | rfl | rfl | rfl | rfl | rfl | rfl | rfl | rfl | rfl | rfl | rfl | rfl | rfl | rfl | rfl | rfl | rfl | rfl | rfl <;> first | exact h9 | (exfalso; omega) | (exfalso; unfold xLv at hl9; omega) | (have h8 : i9 ≠ s := (by omega); exact (show e9 = _ from h9).trans (by simp [layW, mset, h8]))
            refine z_iconst C 82 dX0_slot_81 rfl ?_
            exact z_iret C dX0_slot_82 rfl (Nat.le_of_ble_eq_true rfl) (Nat.le_of_ble_eq_true rfl) (by have h8 : slR w s a b = true := (by unfold slR; first | (simp_all; done) | grind); rw [if_pos h8, if_pos h8]; exact ⟨rfl, M3, σ, rfl, rfl, hX2⟩)
          · skip
            have hb8 : a = 8 → -1 ≤ b ∧ b ≤ w 27 0 - 1 := fun e8 => by rw [e8] at hft; exact of_decide_eq_true hft
            refine z_aload_n C 69 0 dX0_slot_68 rfl rfl ?_
            refine z_lload_n C 70 3 dX0_slot_69 rfl rfl ?_
            refine z_l2i C 71 dX0_slot_70 rfl ?_
            refine z_callV (As := [.int (iI (b))]) (rest := [.ref (σ 40 (s))]) C hκ hκl 74 (k0_thingAt_S hX hs hw hT (b) (s) (M2) ⟨by omega, by omega⟩ ⟨by omega, by omega⟩ ⟨by omega, by omega⟩ fx8) dX0_slot_71 q1245 q1247 qs12 q90 q1248 znX0_thingAt (Nat.le_of_ble_eq_true rfl) (Nat.le_of_ble_eq_true rfl) (Nat.le_of_ble_eq_true rfl) (Nat.le_of_ble_eq_true rfl) (zrec_P (fx8 _ _ hX.o (hX.ne (Or.inl ⟨by decide, rfl⟩) (lvS (by omega) (by omega)) (by decide)))) rfl rfl (Nat.le_of_ble_eq_true rfl) rfl (fun v9 Q9 h9 => ?_)
            obtain ⟨rfl, rfl⟩ := h9
            refine z_as (st' := [va_rf (xo σ 30 ((b))), .ref (σ 40 (s))]) rfl rfl rfl ?_
            refine z_goto C 78 dX0_slot_74 (by decide) ?_
            refine z_putf (fs' := [.int (iI (a)), .long (lI (b)), va_rf (xo σ 30 ((b)))]) C hκ 81 2 zk_X6 o7 (by decide) q254 (Or.inl rfl) rfl (by cases (xo σ 30 ((b))) <;> rfl) (by cases (xo σ 30 ((b))) <;> rfl) (Nat.le_of_ble_eq_true rfl) rfl dX0_slot_78 rfl ?_
            obtain ⟨M4, eM4⟩ : ∃ z9 : zMap, zup M2 (σ 40 (s)) (.inr (6, [.int (iI (a)), .long (lI (b)), va_rf (xo σ 30 ((b)))]) : va_E) = z9 := ⟨_, rfl⟩
            rw [eM4]
            have o12 : M4 (σ 40 (s)) = some (.inr (6, [.int (iI (a)), .long (lI (b)), va_rf (xo σ 30 ((b)))])) := eM4 ▸ zup_s
            have fx13 : zFx (σ 40 (s)) M M4 := eM4 ▸ (show zFx (σ 40 (s)) M M2 from fx8).up (Or.inr rfl)
            have hX2 : xM θ σ (layW w s a b) (xL (layW w s a b)) M4 := by
              rw [← eM4, ← eM2, ← eM1, zup_up, zup_up, show xL (layW w s a b) = xL w from xL_eq (fun _ => rfl) (fun _ => rfl) (fun _ => rfl) (fun _ => rfl)]
              refine xM.set1 (k0 := 40) (i0 := s) hX (lvS (by omega) (by omega)) (fun k9 i9 h9 => h9) (?_ : _ = _) (fun k9 i9 e9 hl9 hn9 h9 => ?_)
              · have h32 : layW w s a b 32 s = a := by simp [layW, mset]
                have h33 : layW w s a b 33 s = b := by simp [layW, mset]
                rw [h32, h33]; first | (exfalso; omega) | (rw [if_pos (by omega), if_pos (by omega)])
              · rcases xLv_k hl9 with rfl | rfl | rfl | rfl | rfl | rfl | rfl | rfl | rfl | rfl | rfl | rfl | rfl | rfl | rfl | rfl | rfl | rfl | rfl | rfl <;> first | exact h9 | (exfalso; omega) | (exfalso; unfold xLv at hl9; omega) | (have h8 : i9 ≠ s := (by omega); exact (show e9 = _ from h9).trans (by simp [layW, mset, h8]))
            refine z_iconst C 82 dX0_slot_81 rfl ?_
            exact z_iret C dX0_slot_82 rfl (Nat.le_of_ble_eq_true rfl) (Nat.le_of_ble_eq_true rfl) (by have h8 : slR w s a b = true := (by unfold slR; first | (simp_all; done) | grind); rw [if_pos h8, if_pos h8]; exact ⟨rfl, M4, σ, rfl, rfl, hX2⟩)
        · skip
          refine z_lconst (x := 0) C 53 dX0_slot_52 rfl rfl ?_
          refine z_goto C 57 dX0_slot_53 (by decide) ?_
          refine z_putf (fs' := [.int (iI (a)), .long (lI (0)), va_rf (if w 32 (s) = 8 then xo σ 30 (w 33 (s)) else none)]) C hκ 60 1 zk_X6 o4 (by decide) q250 (Or.inl rfl) rfl rfl rfl (Nat.le_of_ble_eq_true rfl) rfl dX0_slot_57 rfl ?_
          obtain ⟨M5, eM5⟩ : ∃ z9 : zMap, zup M1 (σ 40 (s)) (.inr (6, [.int (iI (a)), .long (lI (0)), va_rf (if w 32 (s) = 8 then xo σ 30 (w 33 (s)) else none)]) : va_E) = z9 := ⟨_, rfl⟩
          rw [eM5]
          have o14 : M5 (σ 40 (s)) = some (.inr (6, [.int (iI (a)), .long (lI (0)), va_rf (if w 32 (s) = 8 then xo σ 30 (w 33 (s)) else none)])) := eM5 ▸ zup_s
          have fx15 : zFx (σ 40 (s)) M M5 := eM5 ▸ (show zFx (σ 40 (s)) M M1 from fx5).up (Or.inr rfl)
          refine z_aload C 62 4 dX0_slot_60 rfl rfl ?_
          refine z_iload_n C 63 2 dX0_slot_62 rfl rfl ?_
          refine z_bipush C 65 dX0_slot_63 (by decide) rfl ?_
          refine z_icmp_ne C 77 68 dX0_slot_65 (by decide) r_a ⟨by decide, by decide⟩ rfl (fun c16 => ?_) (fun c16 => ?_)
          · skip
            refine z_null C 78 dX0_slot_77 rfl ?_
            refine z_putf (fs' := [.int (iI (a)), .long (lI (0)), .null]) C hκ 81 2 zk_X6 o14 (by decide) q254 (Or.inl rfl) rfl rfl rfl (Nat.le_of_ble_eq_true rfl) rfl dX0_slot_78 rfl ?_
            obtain ⟨M6, eM6⟩ : ∃ z9 : zMap, zup M5 (σ 40 (s)) (.inr (6, [.int (iI (a)), .long (lI (0)), .null]) : va_E) = z9 := ⟨_, rfl⟩
            rw [eM6]
            have o17 : M6 (σ 40 (s)) = some (.inr (6, [.int (iI (a)), .long (lI (0)), .null])) := eM6 ▸ zup_s
            have fx18 : zFx (σ 40 (s)) M M6 := eM6 ▸ (show zFx (σ 40 (s)) M M5 from fx15).up (Or.inr rfl)
            have hX2 : xM θ σ (layW w s a b) (xL (layW w s a b)) M6 := by
              rw [← eM6, ← eM5, ← eM1, zup_up, zup_up, show xL (layW w s a b) = xL w from xL_eq (fun _ => rfl) (fun _ => rfl) (fun _ => rfl) (fun _ => rfl)]
              refine xM.set1 (k0 := 40) (i0 := s) hX (lvS (by omega) (by omega)) (fun k9 i9 h9 => h9) (?_ : _ = _) (fun k9 i9 e9 hl9 hn9 h9 => ?_)
              · have h32 : layW w s a b 32 s = a := by simp [layW, mset]
                have h33 : layW w s a b 33 s = b := by simp [layW, mset]
                rw [h32, h33]; first | (exfalso; omega) | (rw [if_neg (by omega), if_neg (by omega)]; rfl)
              · rcases xLv_k hl9 with rfl | rfl | rfl | rfl | rfl | rfl | rfl | rfl | rfl | rfl | rfl | rfl | rfl | rfl | rfl | rfl | rfl | rfl | rfl | rfl <;> first | exact h9 | (exfalso; omega) | (exfalso; unfold xLv at hl9; omega) | (have h8 : i9 ≠ s := (by omega); exact (show e9 = _ from h9).trans (by simp [layW, mset, h8]))
            refine z_iconst C 82 dX0_slot_81 rfl ?_
            exact z_iret C dX0_slot_82 rfl (Nat.le_of_ble_eq_true rfl) (Nat.le_of_ble_eq_true rfl) (by have h8 : slR w s a b = true := (by unfold slR; first | (simp_all; done) | grind); rw [if_pos h8, if_pos h8]; exact ⟨rfl, M6, σ, rfl, rfl, hX2⟩)
          · skip
            have hb8 : a = 8 → -1 ≤ b ∧ b ≤ w 27 0 - 1 := fun e8 => by rw [e8] at hft; exact of_decide_eq_true hft
            refine z_aload_n C 69 0 dX0_slot_68 rfl rfl ?_
            refine z_lload_n C 70 3 dX0_slot_69 rfl rfl ?_
            refine z_l2i C 71 dX0_slot_70 rfl ?_
            refine z_callV (As := [.int (iI (b))]) (rest := [.ref (σ 40 (s))]) C hκ hκl 74 (k0_thingAt_S hX hs hw hT (b) (s) (M5) ⟨by omega, by omega⟩ ⟨by omega, by omega⟩ ⟨by omega, by omega⟩ fx15) dX0_slot_71 q1245 q1247 qs12 q90 q1248 znX0_thingAt (Nat.le_of_ble_eq_true rfl) (Nat.le_of_ble_eq_true rfl) (Nat.le_of_ble_eq_true rfl) (Nat.le_of_ble_eq_true rfl) (zrec_P (fx15 _ _ hX.o (hX.ne (Or.inl ⟨by decide, rfl⟩) (lvS (by omega) (by omega)) (by decide)))) rfl rfl (Nat.le_of_ble_eq_true rfl) rfl (fun v9 Q9 h9 => ?_)
            obtain ⟨rfl, rfl⟩ := h9
            refine z_as (st' := [va_rf (xo σ 30 ((b))), .ref (σ 40 (s))]) rfl rfl rfl ?_
            refine z_goto C 78 dX0_slot_74 (by decide) ?_
            refine z_putf (fs' := [.int (iI (a)), .long (lI (0)), va_rf (xo σ 30 ((b)))]) C hκ 81 2 zk_X6 o14 (by decide) q254 (Or.inl rfl) rfl (by cases (xo σ 30 ((b))) <;> rfl) (by cases (xo σ 30 ((b))) <;> rfl) (Nat.le_of_ble_eq_true rfl) rfl dX0_slot_78 rfl ?_
            obtain ⟨M7, eM7⟩ : ∃ z9 : zMap, zup M5 (σ 40 (s)) (.inr (6, [.int (iI (a)), .long (lI (0)), va_rf (xo σ 30 ((b)))]) : va_E) = z9 := ⟨_, rfl⟩
            rw [eM7]
            have o19 : M7 (σ 40 (s)) = some (.inr (6, [.int (iI (a)), .long (lI (0)), va_rf (xo σ 30 ((b)))])) := eM7 ▸ zup_s
            have fx20 : zFx (σ 40 (s)) M M7 := eM7 ▸ (show zFx (σ 40 (s)) M M5 from fx15).up (Or.inr rfl)
            have hX2 : xM θ σ (layW w s a b) (xL (layW w s a b)) M7 := by
              rw [← eM7, ← eM5, ← eM1, zup_up, zup_up, show xL (layW w s a b) = xL w from xL_eq (fun _ => rfl) (fun _ => rfl) (fun _ => rfl) (fun _ => rfl)]
              refine xM.set1 (k0 := 40) (i0 := s) hX (lvS (by omega) (by omega)) (fun k9 i9 h9 => h9) (?_ : _ = _) (fun k9 i9 e9 hl9 hn9 h9 => ?_)
              · have h32 : layW w s a b 32 s = a := by simp [layW, mset]
                have h33 : layW w s a b 33 s = b := by simp [layW, mset]
                rw [h32, h33]; first | (exfalso; omega) | (rw [if_pos (by omega), if_pos (by omega)])
              · rcases xLv_k hl9 with rfl | rfl | rfl | rfl | rfl | rfl | rfl | rfl | rfl | rfl | rfl | rfl | rfl | rfl | rfl | rfl | rfl | rfl | rfl | rfl <;> first | exact h9 | (exfalso; omega) | (exfalso; unfold xLv at hl9; omega) | (have h8 : i9 ≠ s := (by omega); exact (show e9 = _ from h9).trans (by simp [layW, mset, h8]))
            refine z_iconst C 82 dX0_slot_81 rfl ?_
            exact z_iret C dX0_slot_82 rfl (Nat.le_of_ble_eq_true rfl) (Nat.le_of_ble_eq_true rfl) (by have h8 : slR w s a b = true := (by unfold slR; first | (simp_all; done) | grind); rw [if_pos h8, if_pos h8]; exact ⟨rfl, M7, σ, rfl, rfl, hX2⟩)
      · skip
        refine z_iconst C 29 dX0_slot_28 rfl ?_
        exact z_iret C dX0_slot_29 rfl (Nat.le_of_ble_eq_true rfl) (Nat.le_of_ble_eq_true rfl) (by have h8 : slR w s a b = false := (by unfold slR; first | (simp_all; done) | grind); rw [if_neg (by simp [h8]), if_neg (by simp [h8])]; exact xOp_same hX)
