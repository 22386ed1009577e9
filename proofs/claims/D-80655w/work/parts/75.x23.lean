section ENT
variable {θ : zTh} {σ : xA} {w w1 : mW} {n k p t : Int} {a fa ab hb : Nat} {z : Bool}
theorem ent5 (h8 : 8 ≤ n) (e1 : w1 1 n = if z then 2 else 1) (e3 : w1 3 n = k) (e6 : w1 6 n = 0) (e5 : w1 5 n = -1) (e2 : w1 2 n = p) (hp : 0 ≤ p) (hpn : p ≠ n) : (.inr (xci w1 n, xTyG (xS4 σ n a fa ab hb) w1 n 0) : va_E) = .inr (5, [.int (iI (n)), .int (iI (k)), .ref (fa), .int (iI (0)), .ref (ab), .int (iI (0)), .ref (hb), .null, va_rf (some (σ 10 (p))), .int (iI (bI (z)))]) := by
  have c : xci w1 n = 5 := xci_5 h8 (by rw [e1]; cases z <;> simp)
  rw [c, xTy_5 c, e3, e6, e5, e2, e1, xS4_11, xS4_12, xS4_13, xo_n (by decide), xo_y hp, xS4_o (fun q => hpn q.1)]
  cases z <;> rfl
theorem ent4 (h8 : 8 ≤ n) (e1 : w1 1 n = 3) (e3 : w1 3 n = k) (e6 : w1 6 n = 0) (e5 : w1 5 n = -1) : (.inr (xci w1 n, xTyG (xS4 σ n a fa ab hb) w1 n 0) : va_E) = .inr (4, [.int (iI (n)), .int (iI (k)), .ref (fa), .int (iI (0)), .ref (ab), .int (iI (0)), .ref (hb), .null]) := by
  have c : xci w1 n = 4 := xci_4 h8 e1
  unfold xTyG xT8
  rw [c, e3, e6, e5, xS4_11, xS4_12, xS4_13, xo_n (by decide)]
  rfl
theorem ent8 (h8 : 8 ≤ n) (e1 : w1 1 n = 4) (e3 : w1 3 n = k) (e6 : w1 6 n = 0) (e5 : w1 5 n = -1) (e4 : w1 4 n = p) (hp : 0 ≤ p) (hpn : p ≠ n) (hn : n ≠ 8) : (.inr (xci w1 n, xTyG (xS4 σ n a fa ab hb) w1 n 0) : va_E) = .inr (8, [.int (iI (n)), .int (iI (k)), .ref (fa), .int (iI (0)), .ref (ab), .int (iI (0)), .ref (hb), .null, .ref (σ 10 (p)), .ref (σ 10 (8))]) := by
  have c : xci w1 n = 8 := xci_8 h8 e1
  rw [c, xTy_8 c, e3, e6, e5, e4, xS4_11, xS4_12, xS4_13, xo_n (by decide), xo_y hp, xS4_o (fun q => hpn q.1), xS4_o (fun q => hn q.1.symm)]
  rfl
/-- what a new type's climbing rests on -/
theorem newT_L (hs : xS w) (hs1 : xS w1) (hn : n = w 0 0) (c0 : w1 0 0 = n + 1) (h1 : ∀ i : Int, i ≠ n → w1 1 i = w 1 i) (h2 : ∀ i : Int, i ≠ n → w1 2 i = w 2 i) (h6 : ∀ i : Int, i ≠ n → w1 6 i = w 6 i) (h7 : ∀ i, w1 7 i = w 7 i) : (∀ x : Int, 0 ≤ x → x < n → rgL (w1 0 0) ((lUp (xL w) n []) x)) ∧ (∀ x : Int, 8 ≤ x → x < n → 8 ∈ (lUp (xL w) n []) x) ∧ (∀ t : Int, 0 ≤ t → t < w1 0 0 → lUp (lUp (xL w) n []) n (clL w1 (lUp (xL w) n []) n) t = xL w1 t) := by
  have hB := hs.S.B.1
  have old := xL_old hs hn h1 h2 h6 h7
  refine ⟨fun x a b => by rw [lUp_n (by omega), ← old x a b]; exact xL_rg hs1 a (by omega), fun x a b => by rw [lUp_n (by omega)]; exact xL_m8 hs a (by omega), fun t a b => ?_⟩
  rw [lUp_up]
  by_cases e : t = n
  · subst e; rw [lUp_s]; exact clL_eq hs1 a b (fun x c d => by rw [lUp_n (by omega)]; exact (old x (by omega) d).symm)
  · rw [lUp_n e]; exact (old t a (by omega)).symm
end ENT
section XT7
variable {κ : zK} {own nm : String} {cc : ByteArray} {nL : Nat} {ret : Option FieldType} {rm : Room} {P : Option Value → (Heap → Prop) → Prop} {n k pc : Nat} {lv : List (Nat × Value)} {st rest : List Value}
variable {θ : zTh} {σ σ' : xA} {w w1 : mW} {M N : zMap} {index : Nat} {ref : String}
theorem xTyG_g7 {t n9 : Int} {v : Value} : ((xTyG σ w t n9).set 7 v)[7]? = some v := by
  have := @xTyG_len σ w t n9
  rw [List.getElem?_set_self (by omega)]
theorem xTyG_7 {n t n9 : Int} {a fa ab hb : Nat} (hs : xS w) (ht : 0 ≤ t ∧ t < w 0 0) (hn : n = w 0 0) (wa : ∀ (k : Nat) (i : Int), k ≠ 0 → k ≠ 8 → k ≠ 9 → k ≠ 10 → i ≠ w 0 0 → ¬ (k = 5 ∧ i = t) → w1 k i = w k i) (e5 : w1 5 t = w 0 0) : (xTyG σ w t n9).set 7 (.ref (a)) = xTyG (xS4 σ n a fa ab hb) w1 t n9 := by
  subst hn
  have hB := hs.S.B.1
  obtain ⟨T1, T2, T3, T4, T5, T6, T7, T8⟩ := hs.S.T ht.1 ht.2
  have q : ∀ k : Nat, k ≠ 0 → k ≠ 8 → k ≠ 9 → k ≠ 10 → k ≠ 5 → w1 k t = w k t := fun k a b c d e => wa k t a b c d (by omega) (fun z => e z.1)
  have s9 : ∀ (k : Nat) (z : Int), z ≠ w 0 0 → xS4 σ (w 0 0) a fa ab hb k z = σ k z := fun k z h => xS4_o (fun y => h y.1)
  unfold xTyG xT8
  rw [xci_eq (q 1 (by decide) (by decide) (by decide) (by decide) (by decide)), q 3 (by decide) (by decide) (by decide) (by decide) (by decide), q 6 (by decide) (by decide) (by decide) (by decide) (by decide), q 2 (by decide) (by decide) (by decide) (by decide) (by decide), q 4 (by decide) (by decide) (by decide) (by decide) (by decide), q 1 (by decide) (by decide) (by decide) (by decide) (by decide), s9 11 t (by omega), s9 12 t (by omega), s9 13 t (by omega), s9 10 8 (by omega), e5, xo_y (show 0 ≤ w 0 0 by omega), xS4_10, xo_eq (σ := σ) (σ' := xS4 σ (w 0 0) a fa ab hb) (fun _ => s9 10 _ (by omega)), xo_eq (σ := σ) (σ' := xS4 σ (w 0 0) a fa ab hb) (fun _ => s9 10 _ (by omega))]
  split
  · rfl
  · split <;> rfl
theorem x_tgetB (C : ZC κ own nm cc nL ret rm P) (hκ : κ.1 = θ) {t : Int} {v : Value} {fs : List Value} (q kf : Nat) (hM : M (σ 10 t) = some (.inr (xci w t, fs))) (hl8 : 8 ≤ fs.length) (hs : xS w) (h0 : 0 ≤ t) (h1 : t < w 0 0) (hk : kf < 8) (e4 : TX4 kf = TX3 kf) (e5 : TX5 kf = TX3 kf) (e8 : TX8 kf = TX3 kf) (hlink : Cond.fieldLink own index ref (TX3 kf).2.1 (TX3 kf).2.2.1 ∈ lw_all) (hsame : ref = (TX3 kf).1 ∨ Cond.sameField ref (TX3 kf).1 (TX3 kf).2.1 (TX3 kf).2.2.1 ∈ lw_all) (hv : fs[kf]? = some v) (d : decode cc pc = .ok (.getfield index, 3)) (hq : pc + 3 = q) (kk : Z κ (zP θ M N) n k q lv (v :: rest)) : Z κ (zP θ M N) n k pc lv (.ref (σ 10 t) :: rest) := by
  rcases hs.cls h0 h1 with ⟨-, h, -⟩ | ⟨-, -, h⟩ | ⟨-, -, h⟩ | ⟨-, -, h⟩ <;> rw [h] at hM
  · exact z_getf C hκ q kf zk_X3 hM (by omega) hlink hsame hv d hq kk
  · exact z_getf C hκ q kf zk_X4 hM (by omega) (by rw [e4]; exact hlink) (by rw [e4]; exact hsame) hv d hq kk
  · exact z_getf C hκ q kf zk_X5 hM (by omega) (by rw [e5]; exact hlink) (by rw [e5]; exact hsame) hv d hq kk
  · exact z_getf C hκ q kf zk_X8 hM (by omega) (by rw [e8]; exact hlink) (by rw [e8]; exact hsame) hv d hq kk
end XT7

set_option maxRecDepth 100000 in
theorem k0_type {l : Launch} {θ : zTh} {σ : xA} {w : mW} {M N : zMap} (hX : xM θ σ w (xL w) M) (hs : xS w) (hw : mWF w) (hT : zTb θ) (p : Int) (k : Int) (a : Bool) (r_p : inR p) (r_k : inR k)  {w1 : mW} {r : Int} (hs1 : xS w1) (hw1 : mWF w1) (hnw : mNew w) (hR : tyR w p k a r w1) : ZM θ l yX0_type cX0_type 4 (some .int) ⟨4, 4, 133, 108⟩ [.ref (σ 0 (0)), .int (iI (p)), .int (iI (k)), .int (iI (bI (a)))] (zP θ M N) (xOp θ σ N r w1) := by
  refine z_start (own := RX0) (nm := "type") pnX0 rfl rfl (Nat.le_of_ble_eq_true rfl) ?_
  intro κ hκ hκl C
  change Z κ (zP θ M N) 0 0 0 [(0, .ref (σ 0 (0))), (1, .int (iI (p))), (2, .int (iI (k))), (3, .int (iI (bI (a))))] []
  have hS := hs.S
  have hB := hS.B
  obtain ⟨hB1, hB2, hB3, hB4, hB5, hB6⟩ := hS.B
  have hC := hS.C
  obtain ⟨h81, h82⟩ := hs.r8
  have ge0 : zGe M M := zGe.rf
  refine z_aload_n C 1 0 dX0_type_0 rfl rfl ?_
  refine z_iload_n C 2 1 dX0_type_1 rfl rfl ?_
  refine z_callV (As := [.int (iI (p))]) (rest := []) C hκ hκl 5 (k0_isType hX hs hw hT (p) r_p) dX0_type_2 q374 q376 qs1 q90 q377 znX0_isType (Nat.le_of_ble_eq_true rfl) (Nat.le_of_ble_eq_true rfl) (Nat.le_of_ble_eq_true rfl) (Nat.le_of_ble_eq_true rfl) (zrec_P hX.o) rfl rfl (Nat.le_of_ble_eq_true rfl) rfl (fun v9 Q9 h9 => ?_)
  obtain ⟨rfl, rfl⟩ := h9
  refine z_as (st' := [.int (iI (bI (tyB w (p))))]) rfl rfl rfl ?_
  refine z_ifB_eq C 32 8 dX0_type_5 (by decide) rfl (fun c1 => ?_) (fun c1 => ?_)
  · skip
    have c1b : ¬ (0 ≤ (p) ∧ (p) < w 0 0) := of_decide_eq_false c1
    refine z_iconst C 33 dX0_type_32 rfl ?_
    exact z_iret C dX0_type_33 rfl (Nat.le_of_ble_eq_true rfl) (Nat.le_of_ble_eq_true rfl) (by have hq : r = -1 ∧ w1 = w := (by unfold tyR at hR; rw [if_pos (by clear hR; simp_all [clB, tyB] <;> omega)] at hR; exact hR); obtain ⟨rfl, rfl⟩ := hq; exact xOp_same hX)
  · skip
    have c1b : (0 ≤ (p) ∧ (p) < w 0 0) := of_decide_eq_true c1
    refine z_aload_n C 9 0 dX0_type_8 rfl rfl ?_
    refine z_getf C hκ (v := .ref (σ 1 (0))) 12 0 zk_X0 hX.o (by decide) q325 (Or.inl rfl) rfl dX0_type_9 rfl ?_
    refine z_iload_n C 13 1 dX0_type_12 rfl rfl ?_
    refine x_aT C hκ 14 hX hs (by omega) (by omega) dX0_type_13 rfl ?_
    obtain ⟨f2a, f2b, f2c, f2d, f2e, f2f, f2g, f2h⟩ := hS.T (show 0 ≤ p by omega) (by omega)
    obtain ⟨f2i, f2j, f2k, f2l⟩ := hs.ty (show 0 ≤ p by omega) (by omega)
    refine xv_isClass (rest := []) C hκ hκl hX hs hw hT (p)   ⟨(by omega), (by omega)⟩  17 dX0_type_14 q381 (Nat.le_of_ble_eq_true rfl) (Nat.le_of_ble_eq_true rfl) (Nat.le_of_ble_eq_true rfl) (Nat.le_of_ble_eq_true rfl) (Nat.le_of_ble_eq_true rfl) rfl ?_
    refine z_as (st' := [.int (iI (bI (clB w (p))))]) rfl rfl rfl ?_
    refine z_ifB_eq C 32 20 dX0_type_17 (by decide) rfl (fun c3 => ?_) (fun c3 => ?_)
    · skip
      have c3b : ¬ (0 ≤ (p) ∧ (p) < w 0 0 ∧ (w 1 (p) = 1 ∨ w 1 (p) = 2)) := of_decide_eq_false c3
      refine z_iconst C 33 dX0_type_32 rfl ?_
      exact z_iret C dX0_type_33 rfl (Nat.le_of_ble_eq_true rfl) (Nat.le_of_ble_eq_true rfl) (by have hq : r = -1 ∧ w1 = w := (by unfold tyR at hR; rw [if_pos (by clear hR; simp_all [clB, tyB] <;> omega)] at hR; exact hR); obtain ⟨rfl, rfl⟩ := hq; exact xOp_same hX)
    · skip
      have c3b : (0 ≤ (p) ∧ (p) < w 0 0 ∧ (w 1 (p) = 1 ∨ w 1 (p) = 2)) := of_decide_eq_true c3
      refine z_iload_n C 21 2 dX0_type_20 rfl rfl ?_
      refine z_i2l C 22 dX0_type_21 r_k rfl ?_
      refine z_lconst (x := 0) C 23 dX0_type_22 rfl rfl ?_
      refine z_ldc2 (z := 3) C 26 dX0_type_23 q391 (by decide) rfl ?_
      refine z_callS (As := [.long (lI (k)), .long (lI (0)), .long (lI (3))]) (rest := []) C hκ hκl 29 (k0_isIn hT (k) (0) (3) (inR_L r_k) ⟨by decide, by decide⟩ ⟨by decide, by decide⟩) dX0_type_26 q378 q379 q90 q380 znX0_isIn (Nat.le_of_ble_eq_true rfl) (Nat.le_of_ble_eq_true rfl) (Nat.le_of_ble_eq_true rfl) (Nat.le_of_ble_eq_true rfl) rfl (Nat.le_of_ble_eq_true rfl) rfl (fun v9 Q9 h9 => ?_)
      obtain ⟨rfl, rfl⟩ := h9
      refine z_as (st' := [.int (iI (bI (decide ((0) ≤ (k) ∧ (k) ≤ (3)))))]) rfl rfl rfl ?_
      refine z_ifB_ne C 34 32 dX0_type_29 (by decide) rfl (fun c4 => ?_) (fun c4 => ?_)
      · skip
        have c4b : (((0) ≤ (k) ∧ (k) ≤ (3))) := of_decide_eq_true c4
        refine z_aload_n C 35 0 dX0_type_34 rfl rfl ?_
        refine z_getf C hκ (v := .int (iI (w 0 0))) 38 1 zk_X0 hX.o (by decide) q328 (Or.inl rfl) rfl dX0_type_35 rfl ?_
        refine z_bipush C 40 dX0_type_38 (by decide) rfl ?_
        refine z_icmp_ne C 48 43 dX0_type_40 (by decide) ⟨by omega, by omega⟩ ⟨by decide, by decide⟩ rfl (fun c5 => ?_) (fun c5 => ?_)
        · skip
          have hq : r = w 0 0 ∧ sBase (ntW w (if a then 2 else 1) p k) w1 (w 0 0 + 1) := by unfold tyR at hR; rw [if_neg (by clear hR; simp_all), if_neg (by omega)] at hR; exact hR
          obtain ⟨hr9, hsb⟩ := hq
          have e9 := hsb.1
          have n9 := hnw (w 0 0) (Int.le_refl _) (by omega)
          have c9 : w1 0 0 = w 0 0 + 1 := (e9 0 0 (by decide) (by decide) (by decide)).trans ntW_0
          have wa : ∀ (k : Nat) (i : Int), k ≠ 0 → k ≠ 8 → k ≠ 9 → k ≠ 10 → i ≠ w 0 0 → ¬ (k = 5 ∧ i = -1) → w1 k i = w k i := fun k i h0 h8 h9 h10 hi _ => (e9 k i h8 h9 h10).trans (ntW_i h0 hi)
          have wb : ∀ (k : Nat) (i : Int), 7 ≤ k → k ≠ 8 → k ≠ 9 → k ≠ 10 → w1 k i = w k i := fun k i h7 h8 h9 h10 => (e9 k i h8 h9 h10).trans (ntW_k (by omega) (by omega) (by omega) (by omega))
          have e6 : w1 6 (w 0 0) = 0 := (e9 6 _ (by decide) (by decide) (by decide)).trans ((ntW_k (by decide) (by decide) (by decide) (by decide)).trans n9.1)
          have e5 : w1 5 (w 0 0) = -1 := (e9 5 _ (by decide) (by decide) (by decide)).trans ((ntW_k (by decide) (by decide) (by decide) (by decide)).trans n9.2.2.1)
          have e1 := (e9 1 (w 0 0) (by decide) (by decide) (by decide)).trans ntW_1
          have e2 := (e9 2 (w 0 0) (by decide) (by decide) (by decide)).trans ntW_2
          have e3 := (e9 3 (w 0 0) (by decide) (by decide) (by decide)).trans ntW_3
          refine z_aload_n C 49 0 dX0_type_48 rfl rfl ?_
          refine z_new (fs := [.int (iI (0)), .int (iI (0)), .null, .int (iI (0)), .null, .int (iI (0)), .null, .null, .null, .int (iI (0))]) C hκ 52 zk_X5 q217 q218 q95 (fun j9 h9 => match j9, h9 with | 0, _ => rfl | 1, _ => rfl | 2, _ => rfl | 3, _ => rfl | 4, _ => rfl | 5, _ => rfl | 6, _ => rfl | 7, _ => rfl | 8, _ => rfl | 9, _ => rfl | (j9 + 10), h9 => absurd h9 (by omega)) (Nat.le_of_ble_eq_true rfl) (Nat.le_of_ble_eq_true rfl) dX0_type_49 rfl (fun a6 a6M a6N => ?_)
          refine z_widen (n' := 1) (k' := 10) (Nat.le_refl _) (Nat.le_refl _) ?_
          have fr7 : xFr σ w (xL w) a6 := hX.fr a6M
          have fr8 : M a6 = none := ge0.no a6M
          obtain ⟨M1, eM1⟩ : ∃ z9 : zMap, zup M a6 (.inr (5, [.int (iI (0)), .int (iI (0)), .null, .int (iI (0)), .null, .int (iI (0)), .null, .null, .null, .int (iI (0))]) : va_E) = z9 := ⟨_, rfl⟩
          rw [eM1]
          have hX9 : xM θ σ w (xL w) M1 := eM1 ▸ hX.up fr7
          have ge10 : zGe M M1 := eM1 ▸ ge0.up fr8
          have o11 : M1 a6 = some (.inr (5, [.int (iI (0)), .int (iI (0)), .null, .int (iI (0)), .null, .int (iI (0)), .null, .null, .null, .int (iI (0))])) := eM1 ▸ zup_s
          refine z_dup C 53 dX0_type_52 rfl rfl ?_
          refine z_aload_n C 54 0 dX0_type_53 rfl rfl ?_
          refine z_getf C hκ (v := .int (iI (w 0 0))) 57 1 zk_X0 hX9.o (by decide) q328 (Or.inl rfl) rfl dX0_type_54 rfl ?_
          refine z_iload_n C 58 2 dX0_type_57 rfl rfl ?_
          refine z_aload_n C 59 0 dX0_type_58 rfl rfl ?_
          refine z_getf C hκ (v := .ref (σ 1 (0))) 62 0 zk_X0 hX9.o (by decide) q325 (Or.inl rfl) rfl dX0_type_59 rfl ?_
          refine z_iload_n C 63 1 dX0_type_62 rfl rfl ?_
          refine x_aT C hκ 64 hX9 hs (by omega) (by omega) dX0_type_63 rfl ?_
          refine z_iload_n C 65 3 dX0_type_64 rfl rfl ?_
          have hcl : 0 ≤ p ∧ p < w 0 0 := by omega
          refine z_callI (As := [.int (iI (w 0 0)), .int (iI (k)), .ref (σ 10 (p)), .int (iI (bI (a)))]) (rest := [.ref (a6), .ref (σ 0 (0))]) C hκ hκl 68 (k5_init_5 hT (a6) (w 0 0) (k) (some (σ 10 (p))) (a) ⟨by omega, by omega⟩ r_k o11) dX0_type_65 q219 q220 q95 q221 znX5_init rfl (Nat.le_of_ble_eq_true rfl) (Nat.le_of_ble_eq_true rfl) (Nat.le_of_ble_eq_true rfl) (Nat.le_of_ble_eq_true rfl) rfl (Nat.le_of_ble_eq_true rfl) rfl (fun v9 Q9 h9 => ?_)
          obtain ⟨rfl, Mr12, far12, abr12, hbr12, rfl, fxr12, oar12, hfar12, gfar12, ifar12, habr12, gabr12, iabr12, hhbr12, ghbr12, ihbr12, nefar12abr12, nefar12hbr12, neabr12hbr12⟩ := h9
          have ne13 : a6 ≠ far12 := fun z9 => by have z8 := o11; rw [z9, gfar12] at z8; cases z8
          have ne14 : a6 ≠ abr12 := fun z9 => by have z8 := o11; rw [z9, gabr12] at z8; cases z8
          have ne15 : a6 ≠ hbr12 := fun z9 => by have z8 := o11; rw [z9, ghbr12] at z8; cases z8
          have fr16 : xFr σ w (xL w) far12 := hX9.fr gfar12
          have fr17 : M far12 = none := ge10.no gfar12
          have fr18 : xFr σ w (xL w) abr12 := hX9.fr gabr12
          have fr19 : M abr12 = none := ge10.no gabr12
          have fr20 : xFr σ w (xL w) hbr12 := hX9.fr ghbr12
          have fr21 : M hbr12 = none := ge10.no ghbr12
          have hX22 : xM θ σ w (xL w) Mr12 := hX9.fx fxr12 fr7
          have ge23 : zGe M Mr12 := ge10.fx fxr12 fr8
          refine z_as (Pic' := zP θ Mr12 N) (st' := [.ref (a6), .ref (σ 0 (0))]) rfl rfl rfl ?_
          refine z_widen (n' := 4) (k' := 133) (Nat.le_refl _) (Nat.le_refl _) ?_
          have hen := ent5 (σ := σ) (a := a6) (fa := far12) (ab := abr12) (hb := hbr12) (z := a) (k := k) (p := p) (show 8 ≤ w 0 0 by omega) e1 e3 e6 e5 e2 (by omega) (by omega)
          have hm9 : Mr12 a6 = some (.inr (xci w1 (w 0 0), xTyG (xS4 σ (w 0 0) a6 far12 abr12 hbr12) w1 (w 0 0) 0)) := oar12.trans (congrArg some hen.symm)
          obtain ⟨f9, p1, p2, p3⟩ := newT_pack (t := -1) (a := a6) (fa := far12) (ab := abr12) (hb := hbr12) hs hX22 rfl (by omega) c9 wa wb (by omega) e6 (fun b e h _ => h) (fun h => absurd h (by decide)) hm9 ⟨_, hfar12⟩ ⟨_, habr12⟩ hhbr12 ⟨fr7, fr16, fr18, fr20⟩ ⟨ne13, ne14, ne15, nefar12abr12, nefar12hbr12, neabr12hbr12⟩
          obtain ⟨q1, q2, q3⟩ := newT_L hs hs1 (n := w 0 0) rfl c9 (fun i hi => wa 1 i (by decide) (by decide) (by decide) (by decide) hi (fun z => by omega)) (fun i hi => wa 2 i (by decide) (by decide) (by decide) (by decide) hi (fun z => by omega)) (fun i hi => wa 6 i (by decide) (by decide) (by decide) (by decide) hi (fun z => by omega)) (fun i => wb 7 i (by decide) (by decide) (by decide) (by decide))
          have e10 : (xS4 σ (w 0 0) a6 far12 abr12 hbr12) 10 (w 0 0) = a6 := xS4_10
          have hno9 : ∀ x : Int, 0 ≤ x → x < w1 27 0 → w1 28 x ≠ w 0 0 := fun x h1 h2 => by rw [wb 27 _ (by decide) (by decide) (by decide) (by decide)] at h2; rw [wb 28 _ (by decide) (by decide) (by decide) (by decide)]; have := (hS.X h1 h2).1; omega
          have hcall := k0_addT (l := l) (M := Mr12) (N := N) (σ := (xS4 σ (w 0 0) a6 far12 abr12 hbr12)) (w := w1) (Lf := lUp (xL w) (w 0 0) []) hT (w 0 0) hs1 hw1 ⟨by omega, by omega⟩ c9 p1 p2 (by rw [e10]; exact hm9) p3 hno9 q1 q2 q3
          rw [e10] at hcall
          refine z_callV (As := [.ref (a6)]) (rest := []) C hκ hκl 71 hcall dX0_type_68 q392 q394 qs2 q90 q395 znX0_add (Nat.le_of_ble_eq_true rfl) (Nat.le_of_ble_eq_true rfl) (Nat.le_of_ble_eq_true rfl) (Nat.le_of_ble_eq_true rfl) (zrec_P hX22.o) rfl rfl (Nat.le_of_ble_eq_true rfl) rfl (fun v9 Q9 h9 => ?_)
          obtain ⟨rfl, M9, rfl, hX9⟩ := h9
          refine z_as (Pic' := zP θ M9 N) (st' := [.int (iI (w 0 0))]) rfl rfl rfl ?_
          exact z_iret C dX0_type_71 rfl (Nat.le_of_ble_eq_true rfl) (Nat.le_of_ble_eq_true rfl) ⟨by rw [hr9], M9, (xS4 σ (w 0 0) a6 far12 abr12 hbr12), rfl, rfl, hX9⟩
        · skip
          refine z_bipush C 45 dX0_type_43 (by decide) rfl ?_
          refine z_goto C 71 dX0_type_45 (by decide) ?_
          exact z_iret C dX0_type_71 rfl (Nat.le_of_ble_eq_true rfl) (Nat.le_of_ble_eq_true rfl) (by have hq : r = -3 ∧ w1 = w := (by unfold tyR at hR; rw [if_neg (by clear hR; simp_all), if_pos (by omega)] at hR; exact hR); obtain ⟨rfl, rfl⟩ := hq; exact xOp_same hX)
      · skip
        have c4b : ¬ (((0) ≤ (k) ∧ (k) ≤ (3))) := of_decide_eq_false c4
        refine z_iconst C 33 dX0_type_32 rfl ?_
        exact z_iret C dX0_type_33 rfl (Nat.le_of_ble_eq_true rfl) (Nat.le_of_ble_eq_true rfl) (by have hq : r = -1 ∧ w1 = w := (by unfold tyR at hR; rw [if_pos (by clear hR; simp_all [clB, tyB] <;> omega)] at hR; exact hR); obtain ⟨rfl, rfl⟩ := hq; exact xOp_same hX)
set_option maxRecDepth 100000 in
theorem k0_face {l : Launch} {θ : zTh} {σ : xA} {w : mW} {M N : zMap} (hX : xM θ σ w (xL w) M) (hs : xS w) (hw : mWF w) (hT : zTb θ) (k : Int) (r_k : inR k)  {w1 : mW} {r : Int} (hs1 : xS w1) (hw1 : mWF w1) (hnw : mNew w) (hR : fcR w k r w1) : ZM θ l yX0_face cX0_face 2 (some .int) ⟨4, 4, 131, 87⟩ [.ref (σ 0 (0)), .int (iI (k))] (zP θ M N) (xOp θ σ N r w1) := by
  refine z_start (own := RX0) (nm := "face") pnX0 rfl rfl (Nat.le_of_ble_eq_true rfl) ?_
  intro κ hκ hκl C
  change Z κ (zP θ M N) 0 0 0 [(0, .ref (σ 0 (0))), (1, .int (iI (k)))] []
  have hS := hs.S
  have hB := hS.B
  obtain ⟨hB1, hB2, hB3, hB4, hB5, hB6⟩ := hS.B
  have hC := hS.C
  obtain ⟨h81, h82⟩ := hs.r8
  have ge0 : zGe M M := zGe.rf
  refine z_iload_n C 1 1 dX0_face_0 rfl rfl ?_
  refine z_i2l C 2 dX0_face_1 r_k rfl ?_
  refine z_lconst (x := 0) C 3 dX0_face_2 rfl rfl ?_
  refine z_ldc2 (z := 3) C 6 dX0_face_3 q391 (by decide) rfl ?_
  refine z_callS (As := [.long (lI (k)), .long (lI (0)), .long (lI (3))]) (rest := []) C hκ hκl 9 (k0_isIn hT (k) (0) (3) (inR_L r_k) ⟨by decide, by decide⟩ ⟨by decide, by decide⟩) dX0_face_6 q378 q379 q90 q380 znX0_isIn (Nat.le_of_ble_eq_true rfl) (Nat.le_of_ble_eq_true rfl) (Nat.le_of_ble_eq_true rfl) (Nat.le_of_ble_eq_true rfl) rfl (Nat.le_of_ble_eq_true rfl) rfl (fun v9 Q9 h9 => ?_)
  obtain ⟨rfl, rfl⟩ := h9
  refine z_as (st' := [.int (iI (bI (decide ((0) ≤ (k) ∧ (k) ≤ (3)))))]) rfl rfl rfl ?_
  refine z_ifB_ne C 14 12 dX0_face_9 (by decide) rfl (fun c1 => ?_) (fun c1 => ?_)
  · skip
    have c1b : (((0) ≤ (k) ∧ (k) ≤ (3))) := of_decide_eq_true c1
    refine z_aload_n C 15 0 dX0_face_14 rfl rfl ?_
    refine z_getf C hκ (v := .int (iI (w 0 0))) 18 1 zk_X0 hX.o (by decide) q328 (Or.inl rfl) rfl dX0_face_15 rfl ?_
    refine z_bipush C 20 dX0_face_18 (by decide) rfl ?_
    refine z_icmp_ne C 28 23 dX0_face_20 (by decide) ⟨by omega, by omega⟩ ⟨by decide, by decide⟩ rfl (fun c2 => ?_) (fun c2 => ?_)
    · skip
      have hq : r = w 0 0 ∧ sBase (ntW w 3 (-1) k) w1 (w 0 0 + 1) := by unfold fcR at hR; rw [if_neg (by clear hR; simp_all), if_neg (by omega)] at hR; exact hR
      obtain ⟨hr9, hsb⟩ := hq
      have e9 := hsb.1
      have n9 := hnw (w 0 0) (Int.le_refl _) (by omega)
      have c9 : w1 0 0 = w 0 0 + 1 := (e9 0 0 (by decide) (by decide) (by decide)).trans ntW_0
      have wa : ∀ (k : Nat) (i : Int), k ≠ 0 → k ≠ 8 → k ≠ 9 → k ≠ 10 → i ≠ w 0 0 → ¬ (k = 5 ∧ i = -1) → w1 k i = w k i := fun k i h0 h8 h9 h10 hi _ => (e9 k i h8 h9 h10).trans (ntW_i h0 hi)
      have wb : ∀ (k : Nat) (i : Int), 7 ≤ k → k ≠ 8 → k ≠ 9 → k ≠ 10 → w1 k i = w k i := fun k i h7 h8 h9 h10 => (e9 k i h8 h9 h10).trans (ntW_k (by omega) (by omega) (by omega) (by omega))
      have e6 : w1 6 (w 0 0) = 0 := (e9 6 _ (by decide) (by decide) (by decide)).trans ((ntW_k (by decide) (by decide) (by decide) (by decide)).trans n9.1)
      have e5 : w1 5 (w 0 0) = -1 := (e9 5 _ (by decide) (by decide) (by decide)).trans ((ntW_k (by decide) (by decide) (by decide) (by decide)).trans n9.2.2.1)
      have e1 := (e9 1 (w 0 0) (by decide) (by decide) (by decide)).trans ntW_1
      have e2 := (e9 2 (w 0 0) (by decide) (by decide) (by decide)).trans ntW_2
      have e3 := (e9 3 (w 0 0) (by decide) (by decide) (by decide)).trans ntW_3
      refine z_aload_n C 29 0 dX0_face_28 rfl rfl ?_
      refine z_new (fs := [.int (iI (0)), .int (iI (0)), .null, .int (iI (0)), .null, .int (iI (0)), .null, .null]) C hκ 32 zk_X4 q408 q409 q94 (fun j9 h9 => match j9, h9 with | 0, _ => rfl | 1, _ => rfl | 2, _ => rfl | 3, _ => rfl | 4, _ => rfl | 5, _ => rfl | 6, _ => rfl | 7, _ => rfl | (j9 + 8), h9 => absurd h9 (by omega)) (Nat.le_of_ble_eq_true rfl) (Nat.le_of_ble_eq_true rfl) dX0_face_29 rfl (fun a3 a3M a3N => ?_)
      refine z_widen (n' := 1) (k' := 8) (Nat.le_refl _) (Nat.le_refl _) ?_
      have fr4 : xFr σ w (xL w) a3 := hX.fr a3M
      have fr5 : M a3 = none := ge0.no a3M
      obtain ⟨M1, eM1⟩ : ∃ z9 : zMap, zup M a3 (.inr (4, [.int (iI (0)), .int (iI (0)), .null, .int (iI (0)), .null, .int (iI (0)), .null, .null]) : va_E) = z9 := ⟨_, rfl⟩
      rw [eM1]
      have hX6 : xM θ σ w (xL w) M1 := eM1 ▸ hX.up fr4
      have ge7 : zGe M M1 := eM1 ▸ ge0.up fr5
      have o8 : M1 a3 = some (.inr (4, [.int (iI (0)), .int (iI (0)), .null, .int (iI (0)), .null, .int (iI (0)), .null, .null])) := eM1 ▸ zup_s
      refine z_dup C 33 dX0_face_32 rfl rfl ?_
      refine z_aload_n C 34 0 dX0_face_33 rfl rfl ?_
      refine z_getf C hκ (v := .int (iI (w 0 0))) 37 1 zk_X0 hX6.o (by decide) q328 (Or.inl rfl) rfl dX0_face_34 rfl ?_
      refine z_iload_n C 38 1 dX0_face_37 rfl rfl ?_
      refine z_callI (As := [.int (iI (w 0 0)), .int (iI (k))]) (rest := [.ref (a3), .ref (σ 0 (0))]) C hκ hκl 41 (k4_init_4 hT (a3) (w 0 0) (k) ⟨by omega, by omega⟩ r_k o8) dX0_face_38 q410 q223 q94 q224 znX4_init rfl (Nat.le_of_ble_eq_true rfl) (Nat.le_of_ble_eq_true rfl) (Nat.le_of_ble_eq_true rfl) (Nat.le_of_ble_eq_true rfl) rfl (Nat.le_of_ble_eq_true rfl) rfl (fun v9 Q9 h9 => ?_)
      obtain ⟨rfl, Mr9, far9, abr9, hbr9, rfl, fxr9, oar9, hfar9, gfar9, ifar9, habr9, gabr9, iabr9, hhbr9, ghbr9, ihbr9, nefar9abr9, nefar9hbr9, neabr9hbr9⟩ := h9
      have ne10 : a3 ≠ far9 := fun z9 => by have z8 := o8; rw [z9, gfar9] at z8; cases z8
      have ne11 : a3 ≠ abr9 := fun z9 => by have z8 := o8; rw [z9, gabr9] at z8; cases z8
      have ne12 : a3 ≠ hbr9 := fun z9 => by have z8 := o8; rw [z9, ghbr9] at z8; cases z8
      have fr13 : xFr σ w (xL w) far9 := hX6.fr gfar9
      have fr14 : M far9 = none := ge7.no gfar9
      have fr15 : xFr σ w (xL w) abr9 := hX6.fr gabr9
      have fr16 : M abr9 = none := ge7.no gabr9
      have fr17 : xFr σ w (xL w) hbr9 := hX6.fr ghbr9
      have fr18 : M hbr9 = none := ge7.no ghbr9
      have hX19 : xM θ σ w (xL w) Mr9 := hX6.fx fxr9 fr4
      have ge20 : zGe M Mr9 := ge7.fx fxr9 fr5
      refine z_as (Pic' := zP θ Mr9 N) (st' := [.ref (a3), .ref (σ 0 (0))]) rfl rfl rfl ?_
      refine z_widen (n' := 4) (k' := 131) (Nat.le_refl _) (Nat.le_refl _) ?_
      have hen := ent4 (σ := σ) (a := a3) (fa := far9) (ab := abr9) (hb := hbr9) (k := k) (show 8 ≤ w 0 0 by omega) e1 e3 e6 e5
      have hm9 : Mr9 a3 = some (.inr (xci w1 (w 0 0), xTyG (xS4 σ (w 0 0) a3 far9 abr9 hbr9) w1 (w 0 0) 0)) := oar9.trans (congrArg some hen.symm)
      obtain ⟨f9, p1, p2, p3⟩ := newT_pack (t := -1) (a := a3) (fa := far9) (ab := abr9) (hb := hbr9) hs hX19 rfl (by omega) c9 wa wb (by omega) e6 (fun b e h _ => h) (fun h => absurd h (by decide)) hm9 ⟨_, hfar9⟩ ⟨_, habr9⟩ hhbr9 ⟨fr4, fr13, fr15, fr17⟩ ⟨ne10, ne11, ne12, nefar9abr9, nefar9hbr9, neabr9hbr9⟩
      obtain ⟨q1, q2, q3⟩ := newT_L hs hs1 (n := w 0 0) rfl c9 (fun i hi => wa 1 i (by decide) (by decide) (by decide) (by decide) hi (fun z => by omega)) (fun i hi => wa 2 i (by decide) (by decide) (by decide) (by decide) hi (fun z => by omega)) (fun i hi => wa 6 i (by decide) (by decide) (by decide) (by decide) hi (fun z => by omega)) (fun i => wb 7 i (by decide) (by decide) (by decide) (by decide))
      have e10 : (xS4 σ (w 0 0) a3 far9 abr9 hbr9) 10 (w 0 0) = a3 := xS4_10
      have hno9 : ∀ x : Int, 0 ≤ x → x < w1 27 0 → w1 28 x ≠ w 0 0 := fun x h1 h2 => by rw [wb 27 _ (by decide) (by decide) (by decide) (by decide)] at h2; rw [wb 28 _ (by decide) (by decide) (by decide) (by decide)]; have := (hS.X h1 h2).1; omega
      have hcall := k0_addT (l := l) (M := Mr9) (N := N) (σ := (xS4 σ (w 0 0) a3 far9 abr9 hbr9)) (w := w1) (Lf := lUp (xL w) (w 0 0) []) hT (w 0 0) hs1 hw1 ⟨by omega, by omega⟩ c9 p1 p2 (by rw [e10]; exact hm9) p3 hno9 q1 q2 q3
      rw [e10] at hcall
      refine z_callV (As := [.ref (a3)]) (rest := []) C hκ hκl 44 hcall dX0_face_41 q392 q394 qs2 q90 q395 znX0_add (Nat.le_of_ble_eq_true rfl) (Nat.le_of_ble_eq_true rfl) (Nat.le_of_ble_eq_true rfl) (Nat.le_of_ble_eq_true rfl) (zrec_P hX19.o) rfl rfl (Nat.le_of_ble_eq_true rfl) rfl (fun v9 Q9 h9 => ?_)
      obtain ⟨rfl, M9, rfl, hX9⟩ := h9
      refine z_as (Pic' := zP θ M9 N) (st' := [.int (iI (w 0 0))]) rfl rfl rfl ?_
      exact z_iret C dX0_face_44 rfl (Nat.le_of_ble_eq_true rfl) (Nat.le_of_ble_eq_true rfl) ⟨by rw [hr9], M9, (xS4 σ (w 0 0) a3 far9 abr9 hbr9), rfl, rfl, hX9⟩
    · skip
      refine z_bipush C 25 dX0_face_23 (by decide) rfl ?_
      refine z_goto C 44 dX0_face_25 (by decide) ?_
      exact z_iret C dX0_face_44 rfl (Nat.le_of_ble_eq_true rfl) (Nat.le_of_ble_eq_true rfl) (by have hq : r = -3 ∧ w1 = w := (by unfold fcR at hR; rw [if_neg (by clear hR; simp_all), if_pos (by omega)] at hR; exact hR); obtain ⟨rfl, rfl⟩ := hq; exact xOp_same hX)
  · skip
    have c1b : ¬ (((0) ≤ (k) ∧ (k) ≤ (3))) := of_decide_eq_false c1
    refine z_iconst C 13 dX0_face_12 rfl ?_
    exact z_iret C dX0_face_13 rfl (Nat.le_of_ble_eq_true rfl) (Nat.le_of_ble_eq_true rfl) (by have hq : r = -1 ∧ w1 = w := (by unfold fcR at hR; rw [if_pos (by clear hR; simp_all <;> omega)] at hR; exact hR); obtain ⟨rfl, rfl⟩ := hq; exact xOp_same hX)
set_option maxRecDepth 100000 in
theorem k0_rows {l : Launch} {θ : zTh} {σ : xA} {w : mW} {M N : zMap} (hX : xM θ σ w (xL w) M) (hs : xS w) (hw : mWF w) (hT : zTb θ) (t : Int) (r_t : inR t)  {w1 : mW} {r : Int} (hs1 : xS w1) (hw1 : mWF w1) (hnw : mNew w) (hR : rwR w t r w1) (h3p : ∀ t : Int, 0 ≤ t → t < 8 → w 3 t = 0) : ZM θ l yX0_rows cX0_rows 3 (some .int) ⟨4, 4, 133, 87⟩ [.ref (σ 0 (0)), .int (iI (t))] (zP θ M N) (xOp θ σ N r w1) := by
  refine z_start (own := RX0) (nm := "rows") pnX0 rfl rfl (Nat.le_of_ble_eq_true rfl) ?_
  intro κ hκ hκl C
  change Z κ (zP θ M N) 0 0 0 [(0, .ref (σ 0 (0))), (1, .int (iI (t)))] []
  have hS := hs.S
  have hB := hS.B
  obtain ⟨hB1, hB2, hB3, hB4, hB5, hB6⟩ := hS.B
  have hC := hS.C
  obtain ⟨h81, h82⟩ := hs.r8
  have ge0 : zGe M M := zGe.rf
  refine z_aload_n C 1 0 dX0_rows_0 rfl rfl ?_
  refine z_iload_n C 2 1 dX0_rows_1 rfl rfl ?_
  refine z_callV (As := [.int (iI (t))]) (rest := []) C hκ hκl 5 (k0_isType hX hs hw hT (t) r_t) dX0_rows_2 q374 q376 qs1 q90 q377 znX0_isType (Nat.le_of_ble_eq_true rfl) (Nat.le_of_ble_eq_true rfl) (Nat.le_of_ble_eq_true rfl) (Nat.le_of_ble_eq_true rfl) (zrec_P hX.o) rfl rfl (Nat.le_of_ble_eq_true rfl) rfl (fun v9 Q9 h9 => ?_)
  obtain ⟨rfl, rfl⟩ := h9
  refine z_as (st' := [.int (iI (bI (tyB w (t))))]) rfl rfl rfl ?_
  refine z_ifB_ne C 10 8 dX0_rows_5 (by decide) rfl (fun c1 => ?_) (fun c1 => ?_)
  · skip
    have c1b : (0 ≤ (t) ∧ (t) < w 0 0) := of_decide_eq_true c1
    refine z_aload_n C 11 0 dX0_rows_10 rfl rfl ?_
    refine z_getf C hκ (v := .ref (σ 1 (0))) 14 0 zk_X0 hX.o (by decide) q325 (Or.inl rfl) rfl dX0_rows_11 rfl ?_
    refine z_iload_n C 15 1 dX0_rows_14 rfl rfl ?_
    refine x_aT C hκ 16 hX hs (by omega) (by omega) dX0_rows_15 rfl ?_
    obtain ⟨f2a, f2b, f2c, f2d, f2e, f2f, f2g, f2h⟩ := hS.T (show 0 ≤ t by omega) (by omega)
    obtain ⟨f2i, f2j, f2k, f2l⟩ := hs.ty (show 0 ≤ t by omega) (by omega)
    refine z_astore_n (lv' := [(0, .ref (σ 0 (0))), (1, .int (iI (t))), (2, .ref (σ 10 (t)))]) C 17 [1, 2, 0] dX0_rows_16 (by decide) rfl rfl ?_
    refine z_aload_n C 18 2 dX0_rows_17 rfl rfl ?_
    refine x_tget (v := va_rf (xo σ 10 (w 5 (t)))) C hκ 21 7 hX hs (by omega) (by omega) (by decide) rfl rfl rfl q198 (Or.inl rfl) rfl dX0_rows_18 rfl ?_
    rcases Int.lt_or_le (w 5 (t)) 0 with n3 | n3
    · skip
      rw [xo_n n3]
      refine z_as (st' := [.null]) (lv' := [(0, .ref (σ 0 (0))), (1, .int (iI (t))), (2, .ref (σ 10 (t)))]) rfl rfl rfl ?_
      refine z_ifnullN C 32 dX0_rows_21 (by decide) ?_
      refine z_aload_n C 33 0 dX0_rows_32 rfl rfl ?_
      refine z_getf C hκ (v := .int (iI (w 0 0))) 36 1 zk_X0 hX.o (by decide) q328 (Or.inl rfl) rfl dX0_rows_33 rfl ?_
      refine z_bipush C 38 dX0_rows_36 (by decide) rfl ?_
      refine z_icmp_ne C 44 41 dX0_rows_38 (by decide) ⟨by omega, by omega⟩ ⟨by decide, by decide⟩ rfl (fun c4 => ?_) (fun c4 => ?_)
      · skip
        have hq : r = w 0 0 ∧ sBase (rwW w t) w1 (w 0 0 + 1) := by unfold rwR at hR; rw [if_neg (by simp_all), if_neg (by omega), if_neg (by omega)] at hR; exact hR
        obtain ⟨hr9, hsb⟩ := hq
        have e9 := hsb.1
        have n9 := hnw (w 0 0) (Int.le_refl _) (by omega)
        have b0 : (mset (mset w 4 (w 0 0) t) 5 t (w 0 0)) 0 0 = w 0 0 := by rw [mset_k (by decide), mset_k (by decide)]
        have rv : ∀ (k : Nat) (i : Int), k ≠ 0 → (i ≠ w 0 0 ∨ 7 ≤ k) → rwW w t k i = (mset (mset w 4 (w 0 0) t) 5 t (w 0 0)) k i := fun k i h0 h => by unfold rwW; rcases h with h | h; exact ntW_i h0 (by rw [b0]; exact h); exact ntW_k (by omega) (by omega) (by omega) (by omega)
        have c9 : w1 0 0 = w 0 0 + 1 := (e9 0 0 (by decide) (by decide) (by decide)).trans (by unfold rwW; rw [ntW_0, b0])
        have wa : ∀ (k : Nat) (i : Int), k ≠ 0 → k ≠ 8 → k ≠ 9 → k ≠ 10 → i ≠ w 0 0 → ¬ (k = 5 ∧ i = t) → w1 k i = w k i := fun k i h0 h8 h9 h10 hi h5 => (e9 k i h8 h9 h10).trans ((rv k i h0 (Or.inl hi)).trans (by unfold mset; rw [if_neg h5, if_neg (fun z => hi z.2)]))
        have wb : ∀ (k : Nat) (i : Int), 7 ≤ k → k ≠ 8 → k ≠ 9 → k ≠ 10 → w1 k i = w k i := fun k i h7 h8 h9 h10 => (e9 k i h8 h9 h10).trans ((rv k i (by omega) (Or.inr h7)).trans (by rw [mset_k (by omega), mset_k (by omega)]))
        have e6 : w1 6 (w 0 0) = 0 := (e9 6 (w 0 0) (by decide) (by decide) (by decide)).trans (by unfold rwW; rw [ntW_k (by decide) (by decide) (by decide) (by decide), mset_k (by decide), mset_k (by decide)]; exact n9.1)
        have e5 : w1 5 (w 0 0) = -1 := (e9 5 (w 0 0) (by decide) (by decide) (by decide)).trans (by unfold rwW; rw [ntW_k (by decide) (by decide) (by decide) (by decide), mset_i (by omega), mset_k (by decide)]; exact n9.2.2.1)
        have e4 : w1 4 (w 0 0) = t := (e9 4 (w 0 0) (by decide) (by decide) (by decide)).trans (by unfold rwW; rw [ntW_k (by decide) (by decide) (by decide) (by decide), mset_k (by decide), mset_s])
        have e1 : w1 1 (w 0 0) = 4 := (e9 1 (w 0 0) (by decide) (by decide) (by decide)).trans (by have := @ntW_1 (mset (mset w 4 (w 0 0) t) 5 t (w 0 0)) 4 8 (if t < 8 then 0 else w 3 t); rw [b0] at this; exact this)
        have e3 : w1 3 (w 0 0) = w 3 t := (e9 3 (w 0 0) (by decide) (by decide) (by decide)).trans (by have := @ntW_3 (mset (mset w 4 (w 0 0) t) 5 t (w 0 0)) 4 8 (if t < 8 then 0 else w 3 t); rw [b0] at this; refine this.trans ?_; split; rename_i h8; exact (h3p t (by omega) h8).symm; rfl)
        have e5t : w1 5 t = w 0 0 := (e9 5 t (by decide) (by decide) (by decide)).trans ((rv 5 t (by decide) (Or.inl (by omega))).trans mset_s)
        refine z_aload_n C 45 2 dX0_rows_44 rfl rfl ?_
        refine z_new (fs := [.int (iI (0)), .int (iI (0)), .null, .int (iI (0)), .null, .int (iI (0)), .null, .null, .null, .null]) C hκ 48 zk_X8 q423 q424 q98 (fun j9 h9 => match j9, h9 with | 0, _ => rfl | 1, _ => rfl | 2, _ => rfl | 3, _ => rfl | 4, _ => rfl | 5, _ => rfl | 6, _ => rfl | 7, _ => rfl | 8, _ => rfl | 9, _ => rfl | (j9 + 10), h9 => absurd h9 (by omega)) (Nat.le_of_ble_eq_true rfl) (Nat.le_of_ble_eq_true rfl) dX0_rows_45 rfl (fun a5 a5M a5N => ?_)
        refine z_widen (n' := 1) (k' := 10) (Nat.le_refl _) (Nat.le_refl _) ?_
        have fr6 : xFr σ w (xL w) a5 := hX.fr a5M
        have fr7 : M a5 = none := ge0.no a5M
        obtain ⟨M1, eM1⟩ : ∃ z9 : zMap, zup M a5 (.inr (8, [.int (iI (0)), .int (iI (0)), .null, .int (iI (0)), .null, .int (iI (0)), .null, .null, .null, .null]) : va_E) = z9 := ⟨_, rfl⟩
        rw [eM1]
        have hX8 : xM θ σ w (xL w) M1 := eM1 ▸ hX.up fr6
        have ge9 : zGe M M1 := eM1 ▸ ge0.up fr7
        have o10 : M1 a5 = some (.inr (8, [.int (iI (0)), .int (iI (0)), .null, .int (iI (0)), .null, .int (iI (0)), .null, .null, .null, .null])) := eM1 ▸ zup_s
        refine z_dup C 49 dX0_rows_48 rfl rfl ?_
        refine z_aload_n C 50 0 dX0_rows_49 rfl rfl ?_
        refine z_getf C hκ (v := .int (iI (w 0 0))) 53 1 zk_X0 hX8.o (by decide) q328 (Or.inl rfl) rfl dX0_rows_50 rfl ?_
        refine z_aload_n C 54 2 dX0_rows_53 rfl rfl ?_
        refine z_aload_n C 55 0 dX0_rows_54 rfl rfl ?_
        refine z_getf C hκ (v := .ref (σ 1 (0))) 58 0 zk_X0 hX8.o (by decide) q325 (Or.inl rfl) rfl dX0_rows_55 rfl ?_
        refine z_bipush C 60 dX0_rows_58 (by decide) rfl ?_
        refine x_aT C hκ 61 hX8 hs (by decide) (by omega) dX0_rows_60 rfl ?_
        obtain ⟨f11a, f11b, f11c, f11d, f11e, f11f, f11g, f11h⟩ := hS.T (show 0 ≤ 8 by decide) (by omega)
        obtain ⟨f11i, f11j, f11k, f11l⟩ := hs.ty (show 0 ≤ 8 by decide) (by omega)
        refine z_callI (As := [.int (iI (w 0 0)), .ref (σ 10 (t)), .ref (σ 10 (8))]) (rest := [.ref (a5), .ref (σ 10 (t))]) C hκ hκl 64 (k8_init_8 hX8 hs hw hT (a5) (w 0 0) (t) (σ 10 (8)) ⟨by omega, by omega⟩ ⟨by omega, by omega⟩ fr6 o10) dX0_rows_61 q425 q426 q98 q427 znX8_init rfl (Nat.le_of_ble_eq_true rfl) (Nat.le_of_ble_eq_true rfl) (Nat.le_of_ble_eq_true rfl) (Nat.le_of_ble_eq_true rfl) rfl (Nat.le_of_ble_eq_true rfl) rfl (fun v9 Q9 h9 => ?_)
        obtain ⟨rfl, Mr12, far12, abr12, hbr12, rfl, fxr12, oar12, hfar12, gfar12, ifar12, habr12, gabr12, iabr12, hhbr12, ghbr12, ihbr12, nefar12abr12, nefar12hbr12, neabr12hbr12⟩ := h9
        have ne13 : a5 ≠ far12 := fun z9 => by have z8 := o10; rw [z9, gfar12] at z8; cases z8
        have ne14 : a5 ≠ abr12 := fun z9 => by have z8 := o10; rw [z9, gabr12] at z8; cases z8
        have ne15 : a5 ≠ hbr12 := fun z9 => by have z8 := o10; rw [z9, ghbr12] at z8; cases z8
        have fr16 : xFr σ w (xL w) far12 := hX8.fr gfar12
        have fr17 : M far12 = none := ge9.no gfar12
        have fr18 : xFr σ w (xL w) abr12 := hX8.fr gabr12
        have fr19 : M abr12 = none := ge9.no gabr12
        have fr20 : xFr σ w (xL w) hbr12 := hX8.fr ghbr12
        have fr21 : M hbr12 = none := ge9.no ghbr12
        have hX22 : xM θ σ w (xL w) Mr12 := hX8.fx fxr12 fr6
        have ge23 : zGe M Mr12 := ge9.fx fxr12 fr7
        refine z_as (Pic' := zP θ Mr12 N) (st' := [.ref (a5), .ref (σ 10 (t))]) rfl rfl rfl ?_
        refine z_widen (n' := 4) (k' := 133) (Nat.le_refl _) (Nat.le_refl _) ?_
        have hset : (xTyG σ w t ((xL w t).length : Int)).set 7 (.ref (a5)) = xTyG (xS4 σ (w 0 0) a5 far12 abr12 hbr12) w1 t ((xL w t).length : Int) := xTyG_7 (n := w 0 0) hs ⟨by omega, by omega⟩ rfl wa e5t
        refine x_tputA (w := w) (fs' := xTyG (xS4 σ (w 0 0) a5 far12 abr12 hbr12) w1 t ((xL w t).length : Int)) C hκ 67 7 (hX22.ty (by omega) (by omega)) xTyG_len hs (by omega) (by omega) (by decide) rfl rfl rfl rfl rfl rfl q198 (Or.inl rfl) rfl rfl rfl hset dX0_rows_64 rfl ?_
        obtain ⟨M2, eM2⟩ : ∃ z9 : zMap, zup Mr12 (σ 10 t) (.inr (xci w t, xTyG (xS4 σ (w 0 0) a5 far12 abr12 hbr12) w1 t ((xL w t).length : Int)) : va_E) = z9 := ⟨_, rfl⟩
        rw [eM2]
        have hmt : M2 (σ 10 t) = some (.inr (xci w t, xTyG (xS4 σ (w 0 0) a5 far12 abr12 hbr12) w1 t ((xL w t).length : Int)) : va_E) := eM2 ▸ zup_s
        have o24 : M2 a5 = some (.inr (8, [.int (iI ((w 0 0))), .int (iI (w 3 (t))), .ref (far12), .int (iI (0)), .ref (abr12), .int (iI (0)), .ref (hbr12), .null, .ref (σ 10 (t)), .ref ((σ 10 (8)))])) := eM2 ▸ (zup_n (fun z9 => fr6 _ _ (lvT (Or.inl rfl) (by omega) (by omega)) z9.symm)).trans oar12
        have o25 : M2 far12 = some (.inl (θ.2.1 8, 3, xQ (fun _ => none))) := eM2 ▸ (zup_n (fun z9 => fr16 _ _ (lvT (Or.inl rfl) (by omega) (by omega)) z9.symm)).trans hfar12
        have o26 : M2 abr12 = some (.inl (θ.2.1 8, 60, xQ (fun _ => none))) := eM2 ▸ (zup_n (fun z9 => fr18 _ _ (lvT (Or.inl rfl) (by omega) (by omega)) z9.symm)).trans habr12
        have o27 : M2 hbr12 = some (metE θ (fun _ => false)) := eM2 ▸ (zup_n (fun z9 => fr20 _ _ (lvT (Or.inl rfl) (by omega) (by omega)) z9.symm)).trans hhbr12
        have hm0 : M2 (σ 0 (0)) = _ := eM2 ▸ (zup_n (hX22.ne (Or.inl ⟨by decide, rfl⟩) (lvT (Or.inl rfl) (by omega) (by omega)) (by decide))).trans hX22.o
        refine z_aload_n C 68 0 dX0_rows_67 rfl rfl ?_
        refine z_aload_n C 69 2 dX0_rows_68 rfl rfl ?_
        refine x_tgetB (v := .ref (a5)) (w := w) C hκ 72 7 hmt xTyG_len hs (by omega) (by omega) (by decide) rfl rfl rfl q198 (Or.inl rfl) (hset ▸ xTyG_g7) dX0_rows_69 rfl ?_
        have hen := ent8 (σ := σ) (a := a5) (fa := far12) (ab := abr12) (hb := hbr12) (k := w 3 t) (p := t) (show 8 ≤ w 0 0 by omega) e1 e3 e6 e5 e4 (by omega) (by omega) (by omega)
        have hm9 : M2 a5 = some (.inr (xci w1 (w 0 0), xTyG (xS4 σ (w 0 0) a5 far12 abr12 hbr12) w1 (w 0 0) 0)) := o24.trans (congrArg some hen.symm)
        obtain ⟨f9, p1, p2, p3⟩ := newT_pack (t := t) (a := a5) (fa := far12) (ab := abr12) (hb := hbr12) hs hX22 rfl (by omega) c9 wa wb (by omega) e6 (fun b e h h2 => by rw [← eM2]; exact (zup_n (h2 (by omega))).trans h) (fun _ => hmt.trans (congrArg some (by rw [xci_eq (w := w) (w1 := w1) (wa 1 t (by decide) (by decide) (by decide) (by decide) (by omega) (fun z => by omega))]))) hm9 ⟨_, o25⟩ ⟨_, o26⟩ o27 ⟨fr6, fr16, fr18, fr20⟩ ⟨ne13, ne14, ne15, nefar12abr12, nefar12hbr12, neabr12hbr12⟩
        obtain ⟨q1, q2, q3⟩ := newT_L hs hs1 (n := w 0 0) rfl c9 (fun i hi => wa 1 i (by decide) (by decide) (by decide) (by decide) hi (fun z => by omega)) (fun i hi => wa 2 i (by decide) (by decide) (by decide) (by decide) hi (fun z => by omega)) (fun i hi => wa 6 i (by decide) (by decide) (by decide) (by decide) hi (fun z => by omega)) (fun i => wb 7 i (by decide) (by decide) (by decide) (by decide))
        have e10 : (xS4 σ (w 0 0) a5 far12 abr12 hbr12) 10 (w 0 0) = a5 := xS4_10
        have hno9 : ∀ x : Int, 0 ≤ x → x < w1 27 0 → w1 28 x ≠ w 0 0 := fun x h1 h2 => by rw [wb 27 _ (by decide) (by decide) (by decide) (by decide)] at h2; rw [wb 28 _ (by decide) (by decide) (by decide) (by decide)]; have := (hS.X h1 h2).1; omega
        have hcall := k0_addT (l := l) (M := M2) (N := N) (σ := (xS4 σ (w 0 0) a5 far12 abr12 hbr12)) (w := w1) (Lf := lUp (xL w) (w 0 0) []) hT (w 0 0) hs1 hw1 ⟨by omega, by omega⟩ c9 p1 p2 (by rw [e10]; exact hm9) p3 hno9 q1 q2 q3
        rw [e10] at hcall
        refine z_callV (As := [.ref (a5)]) (rest := []) C hκ hκl 75 hcall dX0_rows_72 q392 q394 qs2 q90 q395 znX0_add (Nat.le_of_ble_eq_true rfl) (Nat.le_of_ble_eq_true rfl) (Nat.le_of_ble_eq_true rfl) (Nat.le_of_ble_eq_true rfl) (zrec_P hm0) rfl rfl (Nat.le_of_ble_eq_true rfl) rfl (fun v9 Q9 h9 => ?_)
        obtain ⟨rfl, M9, rfl, hX9⟩ := h9
        refine z_as (Pic' := zP θ M9 N) (st' := [.int (iI (w 0 0))]) rfl rfl rfl ?_
        exact z_iret C dX0_rows_75 rfl (Nat.le_of_ble_eq_true rfl) (Nat.le_of_ble_eq_true rfl) ⟨by rw [hr9], M9, (xS4 σ (w 0 0) a5 far12 abr12 hbr12), rfl, rfl, hX9⟩
      · skip
        refine z_bipush C 43 dX0_rows_41 (by decide) rfl ?_
        exact z_iret C dX0_rows_43 rfl (Nat.le_of_ble_eq_true rfl) (Nat.le_of_ble_eq_true rfl) (by have hq : r = -3 ∧ w1 = w := (by unfold rwR at hR; rw [if_neg (by simp_all), if_neg (by omega), if_pos (by omega)] at hR; exact hR); obtain ⟨rfl, rfl⟩ := hq; exact xOp_same hX)
    · skip
      rw [xo_y n3]
      refine z_as (st' := [.ref (σ 10 (w 5 (t)))]) (lv' := [(0, .ref (σ 0 (0))), (1, .int (iI (t))), (2, .ref (σ 10 (t)))]) rfl rfl rfl ?_
      refine z_ifnull C 24 dX0_rows_21 rfl ?_
      refine z_aload_n C 25 2 dX0_rows_24 rfl rfl ?_
      refine x_tget (v := va_rf (xo σ 10 (w 5 (t)))) C hκ 28 7 hX hs (by omega) (by omega) (by decide) rfl rfl rfl q198 (Or.inl rfl) rfl dX0_rows_25 rfl ?_
      have y28 : 0 ≤ w 5 (t) := (by omega)
      rw [xo_y y28]
      refine z_as (st' := [.ref (σ 10 (w 5 (t)))]) (lv' := [(0, .ref (σ 0 (0))), (1, .int (iI (t))), (2, .ref (σ 10 (t)))]) rfl rfl rfl ?_
      obtain ⟨f29a, f29b, f29c, f29d, f29e, f29f, f29g, f29h⟩ := hS.T (show 0 ≤ w 5 (t) by omega) (by omega)
      obtain ⟨f29i, f29j, f29k, f29l⟩ := hs.ty (show 0 ≤ w 5 (t) by omega) (by omega)
      refine xv_number (rest := []) C hκ hκl hX hs hw hT (w 5 (t))   ⟨(by omega), (by omega)⟩  31 dX0_rows_28 q396 (Nat.le_of_ble_eq_true rfl) (Nat.le_of_ble_eq_true rfl) (Nat.le_of_ble_eq_true rfl) (Nat.le_of_ble_eq_true rfl) (Nat.le_of_ble_eq_true rfl) rfl ?_
      refine z_as (st' := [.int (iI ((w 5 (t))))]) rfl rfl rfl ?_
      exact z_iret C dX0_rows_31 rfl (Nat.le_of_ble_eq_true rfl) (Nat.le_of_ble_eq_true rfl) (by have hq : r = w 5 t ∧ w1 = w := (by unfold rwR at hR; rw [if_neg (by simp_all), if_pos (by omega)] at hR; exact hR); obtain ⟨rfl, rfl⟩ := hq; exact xOp_same hX)
  · skip
    have c1b : ¬ (0 ≤ (t) ∧ (t) < w 0 0) := of_decide_eq_false c1
    refine z_iconst C 9 dX0_rows_8 rfl ?_
    exact z_iret C dX0_rows_9 rfl (Nat.le_of_ble_eq_true rfl) (Nat.le_of_ble_eq_true rfl) (by have hq : r = -1 ∧ w1 = w := (by unfold rwR at hR; rw [if_pos (by simp_all)] at hR; exact hR); obtain ⟨rfl, rfl⟩ := hq; exact xOp_same hX)
