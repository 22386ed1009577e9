section XKIND
variable {σ : xA} {w : mW} {m : Int}
/-- of which class the body of a number is -/
theorem xBody_v (h : 0 ≤ w 22 m ∧ w 22 m ≤ 8) : (w 22 m = 0 ∧ ∃ fs, xBody σ w m = .inr (11, fs)) ∨ (w 22 m = 1 ∧ ∃ fs, xBody σ w m = .inr (12, fs)) ∨ (w 22 m = 2 ∧ ∃ fs, xBody σ w m = .inr (13, fs)) ∨ (w 22 m = 3 ∧ ∃ fs, xBody σ w m = .inr (14, fs)) ∨ (w 22 m = 4 ∧ ∃ fs, xBody σ w m = .inr (15, fs)) ∨ (w 22 m = 5 ∧ ∃ fs, xBody σ w m = .inr (16, fs)) ∨ (w 22 m = 6 ∧ ∃ fs, xBody σ w m = .inr (17, fs)) ∨ (w 22 m = 7 ∧ ∃ fs, xBody σ w m = .inr (18, fs)) ∨ (w 22 m = 8 ∧ ∃ fs, xBody σ w m = .inr (21, fs)) := by
  unfold xBody
  simp only
  rcases (show w 22 m = 0 ∨ w 22 m = 1 ∨ w 22 m = 2 ∨ w 22 m = 3 ∨ w 22 m = 4 ∨ w 22 m = 5 ∨ w 22 m = 6 ∨ w 22 m = 7 ∨ w 22 m = 8 by omega) with e | e | e | e | e | e | e | e | e <;> rw [e] <;> simp
end XKIND
theorem mbI_in {w : mW} {m k : Int} (hm : 0 ≤ m ∧ m < w 11 0) (hk : 0 ≤ k ∧ k ≤ 10) : mbI w m k = if k = 0 then w 13 m else if k = 1 then w 14 m else if k = 2 then w 15 m else if k = 3 then bI (mb w 16 m) else if k = 4 then w 17 m else if k = 5 then (if mb w 16 m then -1 else w 18 m) else if k = 9 then bI (mb w 20 m) else if k = 10 then (if mb w 16 m || hasB w m 16 then -1 else w 22 m) else if k - 6 < w 18 m then w 19 (3 * m + (k - 6)) else -1 := by
  unfold mbI mbB; rw [if_neg (by simp; omega), show 3 * m + (k - 6) = 3 * m + k - 6 by omega]

set_option maxRecDepth 100000 in
theorem k10_kind_any {l : Launch} {θ : zTh} {Pic : Heap → Prop} (hT : zTb θ) (b : Nat)   : ZM θ l yX10_kind cX10_kind 1 (some .int) ⟨0, 0, 0, 0⟩ [.ref (b)] (Pic) (zFn (some (.int (iI (0)))) (Pic)) := by
  refine z_start (own := RX10) (nm := "kind") pnX10 rfl rfl (Nat.le_of_ble_eq_true rfl) ?_
  intro κ hκ hκl C
  change Z κ (Pic) 0 0 0 [(0, .ref (b))] []
  refine z_iconst C 1 dX10_kind_0 rfl ?_
  exact z_iret C dX10_kind_1 rfl (Nat.le_of_ble_eq_true rfl) (Nat.le_of_ble_eq_true rfl) ⟨congrArg (fun z => some (Value.int (iI z))) (rfl), rfl⟩
set_option maxRecDepth 100000 in
theorem k12_kind_any {l : Launch} {θ : zTh} {Pic : Heap → Prop} (hT : zTb θ) (b : Nat)   : ZM θ l yX12_kind cX12_kind 1 (some .int) ⟨0, 0, 0, 0⟩ [.ref (b)] (Pic) (zFn (some (.int (iI (1)))) (Pic)) := by
  refine z_start (own := RX12) (nm := "kind") pnX12 rfl rfl (Nat.le_of_ble_eq_true rfl) ?_
  intro κ hκ hκl C
  change Z κ (Pic) 0 0 0 [(0, .ref (b))] []
  refine z_iconst C 1 dX12_kind_0 rfl ?_
  exact z_iret C dX12_kind_1 rfl (Nat.le_of_ble_eq_true rfl) (Nat.le_of_ble_eq_true rfl) ⟨congrArg (fun z => some (Value.int (iI z))) (rfl), rfl⟩
set_option maxRecDepth 100000 in
theorem k13_kind_any {l : Launch} {θ : zTh} {Pic : Heap → Prop} (hT : zTb θ) (b : Nat)   : ZM θ l yX13_kind cX13_kind 1 (some .int) ⟨0, 0, 0, 0⟩ [.ref (b)] (Pic) (zFn (some (.int (iI (2)))) (Pic)) := by
  refine z_start (own := RX13) (nm := "kind") pnX13 rfl rfl (Nat.le_of_ble_eq_true rfl) ?_
  intro κ hκ hκl C
  change Z κ (Pic) 0 0 0 [(0, .ref (b))] []
  refine z_iconst C 1 dX13_kind_0 rfl ?_
  exact z_iret C dX13_kind_1 rfl (Nat.le_of_ble_eq_true rfl) (Nat.le_of_ble_eq_true rfl) ⟨congrArg (fun z => some (Value.int (iI z))) (rfl), rfl⟩
set_option maxRecDepth 100000 in
theorem k14_kind_any {l : Launch} {θ : zTh} {Pic : Heap → Prop} (hT : zTb θ) (b : Nat)   : ZM θ l yX14_kind cX14_kind 1 (some .int) ⟨0, 0, 0, 0⟩ [.ref (b)] (Pic) (zFn (some (.int (iI (3)))) (Pic)) := by
  refine z_start (own := RX14) (nm := "kind") pnX14 rfl rfl (Nat.le_of_ble_eq_true rfl) ?_
  intro κ hκ hκl C
  change Z κ (Pic) 0 0 0 [(0, .ref (b))] []
  refine z_iconst C 1 dX14_kind_0 rfl ?_
  exact z_iret C dX14_kind_1 rfl (Nat.le_of_ble_eq_true rfl) (Nat.le_of_ble_eq_true rfl) ⟨congrArg (fun z => some (Value.int (iI z))) (rfl), rfl⟩
set_option maxRecDepth 100000 in
theorem k15_kind_any {l : Launch} {θ : zTh} {Pic : Heap → Prop} (hT : zTb θ) (b : Nat)   : ZM θ l yX15_kind cX15_kind 1 (some .int) ⟨0, 0, 0, 0⟩ [.ref (b)] (Pic) (zFn (some (.int (iI (4)))) (Pic)) := by
  refine z_start (own := RX15) (nm := "kind") pnX15 rfl rfl (Nat.le_of_ble_eq_true rfl) ?_
  intro κ hκ hκl C
  change Z κ (Pic) 0 0 0 [(0, .ref (b))] []
  refine z_iconst C 1 dX15_kind_0 rfl ?_
  exact z_iret C dX15_kind_1 rfl (Nat.le_of_ble_eq_true rfl) (Nat.le_of_ble_eq_true rfl) ⟨congrArg (fun z => some (Value.int (iI z))) (rfl), rfl⟩
set_option maxRecDepth 100000 in
theorem k16_kind_any {l : Launch} {θ : zTh} {Pic : Heap → Prop} (hT : zTb θ) (b : Nat)   : ZM θ l yX16_kind cX16_kind 1 (some .int) ⟨0, 0, 0, 0⟩ [.ref (b)] (Pic) (zFn (some (.int (iI (5)))) (Pic)) := by
  refine z_start (own := RX16) (nm := "kind") pnX16 rfl rfl (Nat.le_of_ble_eq_true rfl) ?_
  intro κ hκ hκl C
  change Z κ (Pic) 0 0 0 [(0, .ref (b))] []
  refine z_iconst C 1 dX16_kind_0 rfl ?_
  exact z_iret C dX16_kind_1 rfl (Nat.le_of_ble_eq_true rfl) (Nat.le_of_ble_eq_true rfl) ⟨congrArg (fun z => some (Value.int (iI z))) (rfl), rfl⟩
set_option maxRecDepth 100000 in
theorem k17_kind_any {l : Launch} {θ : zTh} {Pic : Heap → Prop} (hT : zTb θ) (b : Nat)   : ZM θ l yX17_kind cX17_kind 1 (some .int) ⟨0, 0, 0, 0⟩ [.ref (b)] (Pic) (zFn (some (.int (iI (6)))) (Pic)) := by
  refine z_start (own := RX17) (nm := "kind") pnX17 rfl rfl (Nat.le_of_ble_eq_true rfl) ?_
  intro κ hκ hκl C
  change Z κ (Pic) 0 0 0 [(0, .ref (b))] []
  refine z_bipush C 2 dX17_kind_0 (by decide) rfl ?_
  exact z_iret C dX17_kind_2 rfl (Nat.le_of_ble_eq_true rfl) (Nat.le_of_ble_eq_true rfl) ⟨congrArg (fun z => some (Value.int (iI z))) (rfl), rfl⟩
set_option maxRecDepth 100000 in
theorem k18_kind_any {l : Launch} {θ : zTh} {Pic : Heap → Prop} (hT : zTb θ) (b : Nat)   : ZM θ l yX18_kind cX18_kind 1 (some .int) ⟨0, 0, 0, 0⟩ [.ref (b)] (Pic) (zFn (some (.int (iI (7)))) (Pic)) := by
  refine z_start (own := RX18) (nm := "kind") pnX18 rfl rfl (Nat.le_of_ble_eq_true rfl) ?_
  intro κ hκ hκl C
  change Z κ (Pic) 0 0 0 [(0, .ref (b))] []
  refine z_bipush C 2 dX18_kind_0 (by decide) rfl ?_
  exact z_iret C dX18_kind_2 rfl (Nat.le_of_ble_eq_true rfl) (Nat.le_of_ble_eq_true rfl) ⟨congrArg (fun z => some (Value.int (iI z))) (rfl), rfl⟩
set_option maxRecDepth 100000 in
theorem k21_kind_any {l : Launch} {θ : zTh} {Pic : Heap → Prop} (hT : zTb θ) (b : Nat)   : ZM θ l yX21_kind cX21_kind 1 (some .int) ⟨0, 0, 0, 0⟩ [.ref (b)] (Pic) (zFn (some (.int (iI (8)))) (Pic)) := by
  refine z_start (own := RX21) (nm := "kind") pnX21 rfl rfl (Nat.le_of_ble_eq_true rfl) ?_
  intro κ hκ hκl C
  change Z κ (Pic) 0 0 0 [(0, .ref (b))] []
  refine z_bipush C 2 dX21_kind_0 (by decide) rfl ?_
  exact z_iret C dX21_kind_2 rfl (Nat.le_of_ble_eq_true rfl) (Nat.le_of_ble_eq_true rfl) ⟨congrArg (fun z => some (Value.int (iI z))) (rfl), rfl⟩
section XV
variable {κ : zK} {own nm : String} {cc : ByteArray} {nL : Nat} {ret : Option FieldType} {rm : Room} {P : Option Value → (Heap → Prop) → Prop} {n k pc : Nat} {lv : List (Nat × Value)} {st rest : List Value}
variable {θ : zTh} {l : Launch} {σ : xA} {w : mW} {Lf : Int → List Int} {M N : zMap} {index : Nat}
theorem xv_kind (C : ZC κ own nm cc nL ret rm P) (hκ : κ.1 = θ) (hκl : κ.2.2.1 = l) (hT : zTb θ) (b : Nat) (m : Int) (hb : M b = some (xBody σ w m)) (h22 : 0 ≤ w 22 m ∧ w 22 m ≤ 8) (q : Nat) (d : decode cc pc = .ok (.invokevirtual index, 3)) (hl : Cond.methodLink own index (⟨"ReflectMirror$Body", "kind", "()I"⟩ : MethodName) ∈ lw_all) (hf : 1 ≤ rm.frames) (hlo : 20 ≤ rm.locals) (hce : n ≤ rm.cells) (hsl : k ≤ rm.slots) (hsz : (rest.map fun v => v.category).sum ≤ 8) (hq : pc + 3 = q) (kk : Z κ (zP θ M N) n k q lv (.int (iI (w 22 m)) :: rest)) : Z κ (zP θ M N) n k pc lv (.ref b :: rest) := by
  rcases xBody_v (σ := σ) h22 with ⟨e, fs, e2⟩ | ⟨e, fs, e2⟩ | ⟨e, fs, e2⟩ | ⟨e, fs, e2⟩ | ⟨e, fs, e2⟩ | ⟨e, fs, e2⟩ | ⟨e, fs, e2⟩ | ⟨e, fs, e2⟩ | ⟨e, fs, e2⟩
  · rw [e2] at hb; rw [e] at kk
    refine z_callU (owner := RX10) (As := []) (rest := rest) C hκ hκl q (k10_kind_any hT b) d hl q1146 q1165 q1145 q104 q1172 rfl ⟨by decide, by decide, rfl⟩ (Nat.le_trans (Nat.le_of_ble_eq_true rfl) hf) (Nat.le_trans (Nat.le_of_ble_eq_true rfl) hlo) hce hsl (zrec_P hb) rfl rfl hsz hq (fun v9 Q9 h9 => ?_)
    obtain ⟨rfl, rfl⟩ := h9
    exact kk
  · rw [e2] at hb; rw [e] at kk
    refine z_callO (owner := RX10) (As := []) (rest := rest) C hκ hκl q (k12_kind_any hT b) d hl q1146 q1145 q1172 q1162 q1163 q106 q1164 ⟨by decide, by decide, rfl⟩ (Nat.le_trans (Nat.le_of_ble_eq_true rfl) hf) (Nat.le_trans (Nat.le_of_ble_eq_true rfl) hlo) hce hsl (zrec_P hb) rfl rfl hsz hq (fun v9 Q9 h9 => ?_)
    obtain ⟨rfl, rfl⟩ := h9
    exact kk
  · rw [e2] at hb; rw [e] at kk
    refine z_callO (owner := RX10) (As := []) (rest := rest) C hκ hκl q (k13_kind_any hT b) d hl q1146 q1145 q1172 q1166 q1167 q107 q1168 ⟨by decide, by decide, rfl⟩ (Nat.le_trans (Nat.le_of_ble_eq_true rfl) hf) (Nat.le_trans (Nat.le_of_ble_eq_true rfl) hlo) hce hsl (zrec_P hb) rfl rfl hsz hq (fun v9 Q9 h9 => ?_)
    obtain ⟨rfl, rfl⟩ := h9
    exact kk
  · rw [e2] at hb; rw [e] at kk
    refine z_callO (owner := RX10) (As := []) (rest := rest) C hκ hκl q (k14_kind_any hT b) d hl q1146 q1145 q1172 q1169 q1170 q108 q1171 ⟨by decide, by decide, rfl⟩ (Nat.le_trans (Nat.le_of_ble_eq_true rfl) hf) (Nat.le_trans (Nat.le_of_ble_eq_true rfl) hlo) hce hsl (zrec_P hb) rfl rfl hsz hq (fun v9 Q9 h9 => ?_)
    obtain ⟨rfl, rfl⟩ := h9
    exact kk
  · rw [e2] at hb; rw [e] at kk
    refine z_callO (owner := RX10) (As := []) (rest := rest) C hκ hκl q (k15_kind_any hT b) d hl q1146 q1145 q1172 q1156 q1157 q109 q1158 ⟨by decide, by decide, rfl⟩ (Nat.le_trans (Nat.le_of_ble_eq_true rfl) hf) (Nat.le_trans (Nat.le_of_ble_eq_true rfl) hlo) hce hsl (zrec_P hb) rfl rfl hsz hq (fun v9 Q9 h9 => ?_)
    obtain ⟨rfl, rfl⟩ := h9
    exact kk
  · rw [e2] at hb; rw [e] at kk
    refine z_callO (owner := RX10) (As := []) (rest := rest) C hκ hκl q (k16_kind_any hT b) d hl q1146 q1145 q1172 q1153 q1154 q110 q1155 ⟨by decide, by decide, rfl⟩ (Nat.le_trans (Nat.le_of_ble_eq_true rfl) hf) (Nat.le_trans (Nat.le_of_ble_eq_true rfl) hlo) hce hsl (zrec_P hb) rfl rfl hsz hq (fun v9 Q9 h9 => ?_)
    obtain ⟨rfl, rfl⟩ := h9
    exact kk
  · rw [e2] at hb; rw [e] at kk
    refine z_callO (owner := RX10) (As := []) (rest := rest) C hκ hκl q (k17_kind_any hT b) d hl q1146 q1145 q1172 q1150 q1151 q111 q1152 ⟨by decide, by decide, rfl⟩ (Nat.le_trans (Nat.le_of_ble_eq_true rfl) hf) (Nat.le_trans (Nat.le_of_ble_eq_true rfl) hlo) hce hsl (zrec_P hb) rfl rfl hsz hq (fun v9 Q9 h9 => ?_)
    obtain ⟨rfl, rfl⟩ := h9
    exact kk
  · rw [e2] at hb; rw [e] at kk
    refine z_callO (owner := RX10) (As := []) (rest := rest) C hκ hκl q (k18_kind_any hT b) d hl q1146 q1145 q1172 q1147 q1148 q112 q1149 ⟨by decide, by decide, rfl⟩ (Nat.le_trans (Nat.le_of_ble_eq_true rfl) hf) (Nat.le_trans (Nat.le_of_ble_eq_true rfl) hlo) hce hsl (zrec_P hb) rfl rfl hsz hq (fun v9 Q9 h9 => ?_)
    obtain ⟨rfl, rfl⟩ := h9
    exact kk
  · rw [e2] at hb; rw [e] at kk
    refine z_callO (owner := RX10) (As := []) (rest := rest) C hκ hκl q (k21_kind_any hT b) d hl q1146 q1145 q1172 q1159 q1160 q115 q1161 ⟨by decide, by decide, rfl⟩ (Nat.le_trans (Nat.le_of_ble_eq_true rfl) hf) (Nat.le_trans (Nat.le_of_ble_eq_true rfl) hlo) hce hsl (zrec_P hb) rfl rfl hsz hq (fun v9 Q9 h9 => ?_)
    obtain ⟨rfl, rfl⟩ := h9
    exact kk
end XV
set_option maxRecDepth 100000 in
theorem k0_member {l : Launch} {θ : zTh} {σ : xA} {w : mW} {M N : zMap} (hX : xM θ σ w (xL w) M) (hs : xS w) (hw : mWF w) (hT : zTb θ) (m : Int) (k : Int) (r_m : inR m) (r_k : inR k)  (h22 : ∀ m : Int, 0 ≤ m → m < w 11 0 → 0 ≤ w 22 m ∧ w 22 m ≤ 8) : ZM θ l yX0_member cX0_member 4 (some .int) ⟨2, 0, 0, 46⟩ [.ref (σ 0 (0)), .int (iI (m)), .int (iI (k))] (zP θ M N) (zFn (some (.int (iI (mbI w m k)))) (zP θ M N)) := by
  refine z_start (own := RX0) (nm := "member") pnX0 rfl rfl (Nat.le_of_ble_eq_true rfl) ?_
  intro κ hκ hκl C
  change Z κ (zP θ M N) 0 0 0 [(0, .ref (σ 0 (0))), (1, .int (iI (m))), (2, .int (iI (k)))] []
  have hS := hs.S
  have hB := hS.B
  obtain ⟨hB1, hB2, hB3, hB4, hB5, hB6⟩ := hS.B
  have hC := hS.C
  obtain ⟨h81, h82⟩ := hs.r8
  refine z_aload_n C 1 0 dX0_member_0 rfl rfl ?_
  refine z_iload_n C 2 1 dX0_member_1 rfl rfl ?_
  refine z_callV (As := [.int (iI (m))]) (rest := []) C hκ hκl 5 (k0_isMember hX hs hw hT (m) r_m) dX0_member_2 q795 q797 qs7 q90 q798 znX0_isMember (Nat.le_of_ble_eq_true rfl) (Nat.le_of_ble_eq_true rfl) (Nat.le_of_ble_eq_true rfl) (Nat.le_of_ble_eq_true rfl) (zrec_P hX.o) rfl rfl (Nat.le_of_ble_eq_true rfl) rfl (fun v9 Q9 h9 => ?_)
  obtain ⟨rfl, rfl⟩ := h9
  refine z_as (st' := [.int (iI (bI (mbB w (m))))]) rfl rfl rfl ?_
  refine z_ifB_eq C 20 8 dX0_member_5 (by decide) rfl (fun c1 => ?_) (fun c1 => ?_)
  · skip
    have c1b : ¬ (0 ≤ (m) ∧ (m) < w 11 0) := of_decide_eq_false c1
    refine z_bipush C 22 dX0_member_20 (by decide) rfl ?_
    exact z_iret C dX0_member_22 rfl (Nat.le_of_ble_eq_true rfl) (Nat.le_of_ble_eq_true rfl) ⟨congrArg (fun z => some (Value.int (iI z))) (by clear C hκ hκl hS hB hB1 hB2 hB3 hB4 hB5 hB6 hC hw hX hs hT h81 h82; clear h22; unfold mbI; rw [if_pos (by first | (simp_all; done) | (simp_all [mbB] <;> omega))]), rfl⟩
  · skip
    have c1b : (0 ≤ (m) ∧ (m) < w 11 0) := of_decide_eq_true c1
    refine z_iload_n C 9 2 dX0_member_8 rfl rfl ?_
    refine z_i2l C 10 dX0_member_9 r_k rfl ?_
    refine z_lconst (x := 0) C 11 dX0_member_10 rfl rfl ?_
    refine z_ldc2 (z := 10) C 14 dX0_member_11 q1143 (by decide) rfl ?_
    refine z_callS (As := [.long (lI (k)), .long (lI (0)), .long (lI (10))]) (rest := []) C hκ hκl 17 (k0_isIn hT (k) (0) (10) (inR_L r_k) ⟨by decide, by decide⟩ ⟨by decide, by decide⟩) dX0_member_14 q378 q379 q90 q380 znX0_isIn (Nat.le_of_ble_eq_true rfl) (Nat.le_of_ble_eq_true rfl) (Nat.le_of_ble_eq_true rfl) (Nat.le_of_ble_eq_true rfl) rfl (Nat.le_of_ble_eq_true rfl) rfl (fun v9 Q9 h9 => ?_)
    obtain ⟨rfl, rfl⟩ := h9
    refine z_as (st' := [.int (iI (bI (decide ((0) ≤ (k) ∧ (k) ≤ (10)))))]) rfl rfl rfl ?_
    refine z_ifB_ne C 23 20 dX0_member_17 (by decide) rfl (fun c2 => ?_) (fun c2 => ?_)
    · skip
      have c2b : (((0) ≤ (k) ∧ (k) ≤ (10))) := of_decide_eq_true c2
      refine z_aload_n C 24 0 dX0_member_23 rfl rfl ?_
      refine z_getf C hκ (v := .ref (σ 2 (0))) 27 2 zk_X0 hX.o (by decide) q329 (Or.inl rfl) rfl dX0_member_24 rfl ?_
      refine z_iload_n C 28 1 dX0_member_27 rfl rfl ?_
      refine x_aM C hκ 29 hX hs (by omega) (by omega) dX0_member_28 rfl ?_
      obtain ⟨f3a, f3b, f3c, f3d⟩ := hS.M (show 0 ≤ m by omega) (by omega)
      refine z_astore_n (lv' := [(0, .ref (σ 0 (0))), (1, .int (iI (m))), (2, .int (iI (k))), (3, .ref (σ 20 (m)))]) C 30 [1, 2, 3, 0] dX0_member_29 (by decide) rfl rfl ?_
      refine z_iload_n C 31 2 dX0_member_30 rfl rfl ?_
      have hk9 : 0 ≤ k ∧ k ≤ 10 := by simp_all
      have k17 : -1 ≤ w 17 m := by have := (hS.M (show 0 ≤ m by omega) (by omega)).2.2.1; omega
      have c4r : inR (k) := r_k
      rcases (show k = 0 ∨ k = 1 ∨ k = 2 ∨ k = 3 ∨ k = 4 ∨ k = 5 ∨ k = 6 ∨ k = 7 ∨ k = 8 ∨ k = 9 ∨ k = 10 ∨ (k < 0 ∨ 10 < k) by omega) with c4 | c4 | c4 | c4 | c4 | c4 | c4 | c4 | c4 | c4 | c4 | c4
      · skip
        refine z_tsIn C (k) 88 (off := 57) dX0_member_31 c4r (by omega) (by omega) (by rw [c4]; rfl) (by decide) ?_
        refine z_aload_n C 89 3 dX0_member_88 rfl rfl ?_
        refine z_getf C hκ (v := .ref (σ 10 (w 13 (m)))) 92 1 zk_X9 (hX.mem (by omega) (by omega)) (by decide) q657 (Or.inl rfl) rfl dX0_member_89 rfl ?_
        obtain ⟨f5a, f5b, f5c, f5d, f5e, f5f, f5g, f5h⟩ := hS.T (show 0 ≤ w 13 (m) by omega) (by omega)
        obtain ⟨f5i, f5j, f5k, f5l⟩ := hs.ty (show 0 ≤ w 13 (m) by omega) (by omega)
        refine xv_number (rest := []) C hκ hκl hX hs hw hT (w 13 (m))   ⟨(by omega), (by omega)⟩  95 dX0_member_92 q396 (Nat.le_of_ble_eq_true rfl) (Nat.le_of_ble_eq_true rfl) (Nat.le_of_ble_eq_true rfl) (Nat.le_of_ble_eq_true rfl) (Nat.le_of_ble_eq_true rfl) rfl ?_
        refine z_as (st' := [.int (iI ((w 13 (m))))]) rfl rfl rfl ?_
        exact z_iret C dX0_member_95 rfl (Nat.le_of_ble_eq_true rfl) (Nat.le_of_ble_eq_true rfl) ⟨congrArg (fun z => some (Value.int (iI z))) (by clear C hκ hκl hS hB hB1 hB2 hB3 hB4 hB5 hB6 hC hw hX hs hT h81 h82 f3a f3b f3c f3d f5a f5b f5c f5d f5e f5f f5g f5h f5i f5j f5k f5l; clear h22; rw [mbI_in (by omega) (by omega)]; first | (simp_all [bI, xHasBody]; done) | (simp_all [bI, xHasBody] <;> omega)), rfl⟩
      · skip
        refine z_tsIn C (k) 96 (off := 65) dX0_member_31 c4r (by omega) (by omega) (by rw [c4]; rfl) (by decide) ?_
        refine z_aload_n C 97 3 dX0_member_96 rfl rfl ?_
        refine z_getf C hκ (v := .int (iI (w 14 (m)))) 100 2 zk_X9 (hX.mem (by omega) (by omega)) (by decide) q660 (Or.inl rfl) rfl dX0_member_97 rfl ?_
        exact z_iret C dX0_member_100 rfl (Nat.le_of_ble_eq_true rfl) (Nat.le_of_ble_eq_true rfl) ⟨congrArg (fun z => some (Value.int (iI z))) (by clear C hκ hκl hS hB hB1 hB2 hB3 hB4 hB5 hB6 hC hw hX hs hT h81 h82 f3a f3b f3c f3d; clear h22; rw [mbI_in (by omega) (by omega)]; first | (simp_all [bI, xHasBody]; done) | (simp_all [bI, xHasBody] <;> omega)), rfl⟩
      · skip
        refine z_tsIn C (k) 101 (off := 70) dX0_member_31 c4r (by omega) (by omega) (by rw [c4]; rfl) (by decide) ?_
        refine z_aload_n C 102 3 dX0_member_101 rfl rfl ?_
        refine z_getf C hκ (v := .int (iI (w 15 (m)))) 105 3 zk_X9 (hX.mem (by omega) (by omega)) (by decide) q662 (Or.inl rfl) rfl dX0_member_102 rfl ?_
        exact z_iret C dX0_member_105 rfl (Nat.le_of_ble_eq_true rfl) (Nat.le_of_ble_eq_true rfl) ⟨congrArg (fun z => some (Value.int (iI z))) (by clear C hκ hκl hS hB hB1 hB2 hB3 hB4 hB5 hB6 hC hw hX hs hT h81 h82 f3a f3b f3c f3d; clear h22; rw [mbI_in (by omega) (by omega)]; first | (simp_all [bI, xHasBody]; done) | (simp_all [bI, xHasBody] <;> omega)), rfl⟩
      · skip
        refine z_tsIn C (k) 106 (off := 75) dX0_member_31 c4r (by omega) (by omega) (by rw [c4]; rfl) (by decide) ?_
        refine z_aload_n C 107 3 dX0_member_106 rfl rfl ?_
        refine z_getf C hκ (v := .int (iI (bI (mb w 16 (m))))) 110 4 zk_X9 (hX.mem (by omega) (by omega)) (by decide) q664 (Or.inl rfl) rfl dX0_member_107 rfl ?_
        refine z_ifB_eq C 117 113 dX0_member_110 (by decide) rfl (fun c6 => ?_) (fun c6 => ?_)
        · skip
          have c6b : ¬ (w 16 (m) = 1) := of_decide_eq_false c6
          refine z_iconst C 118 dX0_member_117 rfl ?_
          exact z_iret C dX0_member_118 rfl (Nat.le_of_ble_eq_true rfl) (Nat.le_of_ble_eq_true rfl) ⟨congrArg (fun z => some (Value.int (iI z))) (by clear C hκ hκl hS hB hB1 hB2 hB3 hB4 hB5 hB6 hC hw hX hs hT h81 h82 f3a f3b f3c f3d; clear h22; rw [mbI_in (by omega) (by omega)]; first | (simp_all [bI, xHasBody]; done) | (simp_all [bI, xHasBody] <;> omega)), rfl⟩
        · skip
          have c6b : (w 16 (m) = 1) := of_decide_eq_true c6
          refine z_iconst C 114 dX0_member_113 rfl ?_
          refine z_goto C 118 dX0_member_114 (by decide) ?_
          exact z_iret C dX0_member_118 rfl (Nat.le_of_ble_eq_true rfl) (Nat.le_of_ble_eq_true rfl) ⟨congrArg (fun z => some (Value.int (iI z))) (by clear C hκ hκl hS hB hB1 hB2 hB3 hB4 hB5 hB6 hC hw hX hs hT h81 h82 f3a f3b f3c f3d; clear h22; rw [mbI_in (by omega) (by omega)]; first | (simp_all [bI, xHasBody]; done) | (simp_all [bI, xHasBody] <;> omega)), rfl⟩
      · skip
        refine z_tsIn C (k) 119 (off := 88) dX0_member_31 c4r (by omega) (by omega) (by rw [c4]; rfl) (by decide) ?_
        refine z_aload_n C 120 3 dX0_member_119 rfl rfl ?_
        refine z_getf C hκ (v := va_rf (xo σ 10 (w 17 (m)))) 123 5 zk_X9 (hX.mem (by omega) (by omega)) (by decide) q672 (Or.inl rfl) rfl dX0_member_120 rfl ?_
        rcases Int.lt_or_le (w 17 (m)) 0 with n7 | n7
        · skip
          rw [xo_n n7]
          refine z_as (st' := [.null]) (lv' := [(0, .ref (σ 0 (0))), (1, .int (iI (m))), (2, .int (iI (k))), (3, .ref (σ 20 (m)))]) rfl rfl rfl ?_
          refine z_ifnonnullN C 126 dX0_member_123 rfl ?_
          refine z_iconst C 127 dX0_member_126 rfl ?_
          refine z_goto C 137 dX0_member_127 (by decide) ?_
          exact z_iret C dX0_member_137 rfl (Nat.le_of_ble_eq_true rfl) (Nat.le_of_ble_eq_true rfl) ⟨congrArg (fun z => some (Value.int (iI z))) (by clear C hκ hκl hS hB hB1 hB2 hB3 hB4 hB5 hB6 hC hw hX hs hT h81 h82 f3a f3b f3c f3d; clear h22; rw [mbI_in (by omega) (by omega)]; first | (simp_all [bI, xHasBody]; done) | (simp_all [bI, xHasBody] <;> omega)), rfl⟩
        · skip
          rw [xo_y n7]
          refine z_as (st' := [.ref (σ 10 (w 17 (m)))]) (lv' := [(0, .ref (σ 0 (0))), (1, .int (iI (m))), (2, .int (iI (k))), (3, .ref (σ 20 (m)))]) rfl rfl rfl ?_
          refine z_ifnonnull C 130 dX0_member_123 (by decide) ?_
          refine z_aload_n C 131 3 dX0_member_130 rfl rfl ?_
          refine z_getf C hκ (v := va_rf (xo σ 10 (w 17 (m)))) 134 5 zk_X9 (hX.mem (by omega) (by omega)) (by decide) q672 (Or.inl rfl) rfl dX0_member_131 rfl ?_
          have y8 : 0 ≤ w 17 (m) := (by omega)
          rw [xo_y y8]
          refine z_as (st' := [.ref (σ 10 (w 17 (m)))]) (lv' := [(0, .ref (σ 0 (0))), (1, .int (iI (m))), (2, .int (iI (k))), (3, .ref (σ 20 (m)))]) rfl rfl rfl ?_
          obtain ⟨f9a, f9b, f9c, f9d, f9e, f9f, f9g, f9h⟩ := hS.T (show 0 ≤ w 17 (m) by omega) (by omega)
          obtain ⟨f9i, f9j, f9k, f9l⟩ := hs.ty (show 0 ≤ w 17 (m) by omega) (by omega)
          refine xv_number (rest := []) C hκ hκl hX hs hw hT (w 17 (m))   ⟨(by omega), (by omega)⟩  137 dX0_member_134 q396 (Nat.le_of_ble_eq_true rfl) (Nat.le_of_ble_eq_true rfl) (Nat.le_of_ble_eq_true rfl) (Nat.le_of_ble_eq_true rfl) (Nat.le_of_ble_eq_true rfl) rfl ?_
          refine z_as (st' := [.int (iI ((w 17 (m))))]) rfl rfl rfl ?_
          exact z_iret C dX0_member_137 rfl (Nat.le_of_ble_eq_true rfl) (Nat.le_of_ble_eq_true rfl) ⟨congrArg (fun z => some (Value.int (iI z))) (by clear C hκ hκl hS hB hB1 hB2 hB3 hB4 hB5 hB6 hC hw hX hs hT h81 h82 f3a f3b f3c f3d f9a f9b f9c f9d f9e f9f f9g f9h f9i f9j f9k f9l; clear h22; rw [mbI_in (by omega) (by omega)]; first | (simp_all [bI, xHasBody]; done) | (simp_all [bI, xHasBody] <;> omega)), rfl⟩
      · skip
        refine z_tsIn C (k) 138 (off := 107) dX0_member_31 c4r (by omega) (by omega) (by rw [c4]; rfl) (by decide) ?_
        refine z_aload_n C 139 3 dX0_member_138 rfl rfl ?_
        refine z_getf C hκ (v := .int (iI (bI (mb w 16 (m))))) 142 4 zk_X9 (hX.mem (by omega) (by omega)) (by decide) q664 (Or.inl rfl) rfl dX0_member_139 rfl ?_
        refine z_ifB_eq C 149 145 dX0_member_142 (by decide) rfl (fun c10 => ?_) (fun c10 => ?_)
        · skip
          have c10b : ¬ (w 16 (m) = 1) := of_decide_eq_false c10
          refine z_aload_n C 150 3 dX0_member_149 rfl rfl ?_
          refine z_getf C hκ (v := .int (iI (w 18 (m)))) 153 7 zk_X9 (hX.mem (by omega) (by omega)) (by decide) q680 (Or.inl rfl) rfl dX0_member_150 rfl ?_
          exact z_iret C dX0_member_153 rfl (Nat.le_of_ble_eq_true rfl) (Nat.le_of_ble_eq_true rfl) ⟨congrArg (fun z => some (Value.int (iI z))) (by clear C hκ hκl hS hB hB1 hB2 hB3 hB4 hB5 hB6 hC hw hX hs hT h81 h82 f3a f3b f3c f3d; clear h22; rw [mbI_in (by omega) (by omega)]; first | (simp_all [bI, xHasBody]; done) | (simp_all [bI, xHasBody] <;> omega)), rfl⟩
        · skip
          have c10b : (w 16 (m) = 1) := of_decide_eq_true c10
          refine z_iconst C 146 dX0_member_145 rfl ?_
          refine z_goto C 153 dX0_member_146 (by decide) ?_
          exact z_iret C dX0_member_153 rfl (Nat.le_of_ble_eq_true rfl) (Nat.le_of_ble_eq_true rfl) ⟨congrArg (fun z => some (Value.int (iI z))) (by clear C hκ hκl hS hB hB1 hB2 hB3 hB4 hB5 hB6 hC hw hX hs hT h81 h82 f3a f3b f3c f3d; clear h22; rw [mbI_in (by omega) (by omega)]; first | (simp_all [bI, xHasBody]; done) | (simp_all [bI, xHasBody] <;> omega)), rfl⟩
      · skip
        refine z_tsIn C (k) 186 (off := 155) dX0_member_31 c4r (by omega) (by omega) (by rw [c4]; rfl) (by decide) ?_
        refine z_iload_n C 187 2 dX0_member_186 rfl rfl ?_
        refine z_bipush C 189 dX0_member_187 (by decide) rfl ?_
        refine z_isub C 190 dX0_member_189 rfl ?_
        refine z_aload_n C 191 3 dX0_member_190 rfl rfl ?_
        refine z_getf C hκ (v := .int (iI (w 18 (m)))) 194 7 zk_X9 (hX.mem (by omega) (by omega)) (by decide) q680 (Or.inl rfl) rfl dX0_member_191 rfl ?_
        refine z_icmp_ge C 212 197 dX0_member_194 (by decide) ⟨by omega, by omega⟩ (hw.r _ _ rfl) rfl (fun c11 => ?_) (fun c11 => ?_)
        · skip
          refine z_iconst C 213 dX0_member_212 rfl ?_
          exact z_iret C dX0_member_213 rfl (Nat.le_of_ble_eq_true rfl) (Nat.le_of_ble_eq_true rfl) ⟨congrArg (fun z => some (Value.int (iI z))) (by clear C hκ hκl hS hB hB1 hB2 hB3 hB4 hB5 hB6 hC hw hX hs hT h81 h82 f3a f3b f3c f3d; clear h22; rw [mbI_in (by omega) (by omega)]; first | (simp_all [bI, xHasBody]; done) | (simp_all [bI, xHasBody] <;> omega)), rfl⟩
        · skip
          refine z_aload_n C 198 3 dX0_member_197 rfl rfl ?_
          refine z_getf C hκ (v := .ref (σ 21 (m))) 201 6 zk_X9 (hX.mem (by omega) (by omega)) (by decide) q676 (Or.inl rfl) rfl dX0_member_198 rfl ?_
          refine z_iload_n C 202 2 dX0_member_201 rfl rfl ?_
          refine z_bipush C 204 dX0_member_202 (by decide) rfl ?_
          refine z_isub C 205 dX0_member_204 rfl ?_
          have hz6 := (hS.M (show 0 ≤ m by omega) (by omega)).2.2.2 (k - 6) (by omega) (by omega)
          refine x_apm C hκ 206 hX hs (by omega) (by omega) (by omega) (by omega) dX0_member_205 rfl ?_
          obtain ⟨f12a, f12b, f12c, f12d, f12e, f12f, f12g, f12h⟩ := hS.T (show 0 ≤ w 19 (3 * (m) + ((k) - (6))) by omega) (by omega)
          obtain ⟨f12i, f12j, f12k, f12l⟩ := hs.ty (show 0 ≤ w 19 (3 * (m) + ((k) - (6))) by omega) (by omega)
          refine xv_number (rest := []) C hκ hκl hX hs hw hT (w 19 (3 * (m) + ((k) - (6))))   ⟨(by omega), (by omega)⟩  209 dX0_member_206 q396 (Nat.le_of_ble_eq_true rfl) (Nat.le_of_ble_eq_true rfl) (Nat.le_of_ble_eq_true rfl) (Nat.le_of_ble_eq_true rfl) (Nat.le_of_ble_eq_true rfl) rfl ?_
          refine z_as (st' := [.int (iI ((w 19 (3 * (m) + ((k) - (6))))))]) rfl rfl rfl ?_
          refine z_goto C 213 dX0_member_209 (by decide) ?_
          exact z_iret C dX0_member_213 rfl (Nat.le_of_ble_eq_true rfl) (Nat.le_of_ble_eq_true rfl) ⟨congrArg (fun z => some (Value.int (iI z))) (by clear C hκ hκl hS hB hB1 hB2 hB3 hB4 hB5 hB6 hC hw hX hs hT h81 h82 f3a f3b f3c f3d f12a f12b f12c f12d f12e f12f f12g f12h f12i f12j f12k f12l; clear h22; rw [mbI_in (by omega) (by omega)]; first | (simp_all [bI, xHasBody]; done) | (simp_all [bI, xHasBody] <;> omega)), rfl⟩
      · skip
        refine z_tsIn C (k) 186 (off := 155) dX0_member_31 c4r (by omega) (by omega) (by rw [c4]; rfl) (by decide) ?_
        refine z_iload_n C 187 2 dX0_member_186 rfl rfl ?_
        refine z_bipush C 189 dX0_member_187 (by decide) rfl ?_
        refine z_isub C 190 dX0_member_189 rfl ?_
        refine z_aload_n C 191 3 dX0_member_190 rfl rfl ?_
        refine z_getf C hκ (v := .int (iI (w 18 (m)))) 194 7 zk_X9 (hX.mem (by omega) (by omega)) (by decide) q680 (Or.inl rfl) rfl dX0_member_191 rfl ?_
        refine z_icmp_ge C 212 197 dX0_member_194 (by decide) ⟨by omega, by omega⟩ (hw.r _ _ rfl) rfl (fun c13 => ?_) (fun c13 => ?_)
        · skip
          refine z_iconst C 213 dX0_member_212 rfl ?_
          exact z_iret C dX0_member_213 rfl (Nat.le_of_ble_eq_true rfl) (Nat.le_of_ble_eq_true rfl) ⟨congrArg (fun z => some (Value.int (iI z))) (by clear C hκ hκl hS hB hB1 hB2 hB3 hB4 hB5 hB6 hC hw hX hs hT h81 h82 f3a f3b f3c f3d; clear h22; rw [mbI_in (by omega) (by omega)]; first | (simp_all [bI, xHasBody]; done) | (simp_all [bI, xHasBody] <;> omega)), rfl⟩
        · skip
          refine z_aload_n C 198 3 dX0_member_197 rfl rfl ?_
          refine z_getf C hκ (v := .ref (σ 21 (m))) 201 6 zk_X9 (hX.mem (by omega) (by omega)) (by decide) q676 (Or.inl rfl) rfl dX0_member_198 rfl ?_
          refine z_iload_n C 202 2 dX0_member_201 rfl rfl ?_
          refine z_bipush C 204 dX0_member_202 (by decide) rfl ?_
          refine z_isub C 205 dX0_member_204 rfl ?_
          have hz6 := (hS.M (show 0 ≤ m by omega) (by omega)).2.2.2 (k - 6) (by omega) (by omega)
          refine x_apm C hκ 206 hX hs (by omega) (by omega) (by omega) (by omega) dX0_member_205 rfl ?_
          obtain ⟨f14a, f14b, f14c, f14d, f14e, f14f, f14g, f14h⟩ := hS.T (show 0 ≤ w 19 (3 * (m) + ((k) - (6))) by omega) (by omega)
          obtain ⟨f14i, f14j, f14k, f14l⟩ := hs.ty (show 0 ≤ w 19 (3 * (m) + ((k) - (6))) by omega) (by omega)
          refine xv_number (rest := []) C hκ hκl hX hs hw hT (w 19 (3 * (m) + ((k) - (6))))   ⟨(by omega), (by omega)⟩  209 dX0_member_206 q396 (Nat.le_of_ble_eq_true rfl) (Nat.le_of_ble_eq_true rfl) (Nat.le_of_ble_eq_true rfl) (Nat.le_of_ble_eq_true rfl) (Nat.le_of_ble_eq_true rfl) rfl ?_
          refine z_as (st' := [.int (iI ((w 19 (3 * (m) + ((k) - (6))))))]) rfl rfl rfl ?_
          refine z_goto C 213 dX0_member_209 (by decide) ?_
          exact z_iret C dX0_member_213 rfl (Nat.le_of_ble_eq_true rfl) (Nat.le_of_ble_eq_true rfl) ⟨congrArg (fun z => some (Value.int (iI z))) (by clear C hκ hκl hS hB hB1 hB2 hB3 hB4 hB5 hB6 hC hw hX hs hT h81 h82 f3a f3b f3c f3d f14a f14b f14c f14d f14e f14f f14g f14h f14i f14j f14k f14l; clear h22; rw [mbI_in (by omega) (by omega)]; first | (simp_all [bI, xHasBody]; done) | (simp_all [bI, xHasBody] <;> omega)), rfl⟩
      · skip
        refine z_tsIn C (k) 186 (off := 155) dX0_member_31 c4r (by omega) (by omega) (by rw [c4]; rfl) (by decide) ?_
        refine z_iload_n C 187 2 dX0_member_186 rfl rfl ?_
        refine z_bipush C 189 dX0_member_187 (by decide) rfl ?_
        refine z_isub C 190 dX0_member_189 rfl ?_
        refine z_aload_n C 191 3 dX0_member_190 rfl rfl ?_
        refine z_getf C hκ (v := .int (iI (w 18 (m)))) 194 7 zk_X9 (hX.mem (by omega) (by omega)) (by decide) q680 (Or.inl rfl) rfl dX0_member_191 rfl ?_
        refine z_icmp_ge C 212 197 dX0_member_194 (by decide) ⟨by omega, by omega⟩ (hw.r _ _ rfl) rfl (fun c15 => ?_) (fun c15 => ?_)
        · skip
          refine z_iconst C 213 dX0_member_212 rfl ?_
          exact z_iret C dX0_member_213 rfl (Nat.le_of_ble_eq_true rfl) (Nat.le_of_ble_eq_true rfl) ⟨congrArg (fun z => some (Value.int (iI z))) (by clear C hκ hκl hS hB hB1 hB2 hB3 hB4 hB5 hB6 hC hw hX hs hT h81 h82 f3a f3b f3c f3d; clear h22; rw [mbI_in (by omega) (by omega)]; first | (simp_all [bI, xHasBody]; done) | (simp_all [bI, xHasBody] <;> omega)), rfl⟩
        · skip
          refine z_aload_n C 198 3 dX0_member_197 rfl rfl ?_
          refine z_getf C hκ (v := .ref (σ 21 (m))) 201 6 zk_X9 (hX.mem (by omega) (by omega)) (by decide) q676 (Or.inl rfl) rfl dX0_member_198 rfl ?_
          refine z_iload_n C 202 2 dX0_member_201 rfl rfl ?_
          refine z_bipush C 204 dX0_member_202 (by decide) rfl ?_
          refine z_isub C 205 dX0_member_204 rfl ?_
          have hz6 := (hS.M (show 0 ≤ m by omega) (by omega)).2.2.2 (k - 6) (by omega) (by omega)
          refine x_apm C hκ 206 hX hs (by omega) (by omega) (by omega) (by omega) dX0_member_205 rfl ?_
          obtain ⟨f16a, f16b, f16c, f16d, f16e, f16f, f16g, f16h⟩ := hS.T (show 0 ≤ w 19 (3 * (m) + ((k) - (6))) by omega) (by omega)
          obtain ⟨f16i, f16j, f16k, f16l⟩ := hs.ty (show 0 ≤ w 19 (3 * (m) + ((k) - (6))) by omega) (by omega)
          refine xv_number (rest := []) C hκ hκl hX hs hw hT (w 19 (3 * (m) + ((k) - (6))))   ⟨(by omega), (by omega)⟩  209 dX0_member_206 q396 (Nat.le_of_ble_eq_true rfl) (Nat.le_of_ble_eq_true rfl) (Nat.le_of_ble_eq_true rfl) (Nat.le_of_ble_eq_true rfl) (Nat.le_of_ble_eq_true rfl) rfl ?_
          refine z_as (st' := [.int (iI ((w 19 (3 * (m) + ((k) - (6))))))]) rfl rfl rfl ?_
          refine z_goto C 213 dX0_member_209 (by decide) ?_
          exact z_iret C dX0_member_213 rfl (Nat.le_of_ble_eq_true rfl) (Nat.le_of_ble_eq_true rfl) ⟨congrArg (fun z => some (Value.int (iI z))) (by clear C hκ hκl hS hB hB1 hB2 hB3 hB4 hB5 hB6 hC hw hX hs hT h81 h82 f3a f3b f3c f3d f16a f16b f16c f16d f16e f16f f16g f16h f16i f16j f16k f16l; clear h22; rw [mbI_in (by omega) (by omega)]; first | (simp_all [bI, xHasBody]; done) | (simp_all [bI, xHasBody] <;> omega)), rfl⟩
      · skip
        refine z_tsIn C (k) 154 (off := 123) dX0_member_31 c4r (by omega) (by omega) (by rw [c4]; rfl) (by decide) ?_
        refine z_aload_n C 155 3 dX0_member_154 rfl rfl ?_
        refine z_getf C hκ (v := .int (iI (bI (mb w 20 (m))))) 158 8 zk_X9 (hX.mem (by omega) (by omega)) (by decide) q681 (Or.inl rfl) rfl dX0_member_155 rfl ?_
        refine z_ifB_eq C 165 161 dX0_member_158 (by decide) rfl (fun c17 => ?_) (fun c17 => ?_)
        · skip
          have c17b : ¬ (w 20 (m) = 1) := of_decide_eq_false c17
          refine z_iconst C 166 dX0_member_165 rfl ?_
          exact z_iret C dX0_member_166 rfl (Nat.le_of_ble_eq_true rfl) (Nat.le_of_ble_eq_true rfl) ⟨congrArg (fun z => some (Value.int (iI z))) (by clear C hκ hκl hS hB hB1 hB2 hB3 hB4 hB5 hB6 hC hw hX hs hT h81 h82 f3a f3b f3c f3d; clear h22; rw [mbI_in (by omega) (by omega)]; first | (simp_all [bI, xHasBody]; done) | (simp_all [bI, xHasBody] <;> omega)), rfl⟩
        · skip
          have c17b : (w 20 (m) = 1) := of_decide_eq_true c17
          refine z_iconst C 162 dX0_member_161 rfl ?_
          refine z_goto C 166 dX0_member_162 (by decide) ?_
          exact z_iret C dX0_member_166 rfl (Nat.le_of_ble_eq_true rfl) (Nat.le_of_ble_eq_true rfl) ⟨congrArg (fun z => some (Value.int (iI z))) (by clear C hκ hκl hS hB hB1 hB2 hB3 hB4 hB5 hB6 hC hw hX hs hT h81 h82 f3a f3b f3c f3d; clear h22; rw [mbI_in (by omega) (by omega)]; first | (simp_all [bI, xHasBody]; done) | (simp_all [bI, xHasBody] <;> omega)), rfl⟩
      · skip
        refine z_tsIn C (k) 167 (off := 136) dX0_member_31 c4r (by omega) (by omega) (by rw [c4]; rfl) (by decide) ?_
        refine z_aload_n C 168 3 dX0_member_167 rfl rfl ?_
        refine z_getf C hκ (v := va_rf (if xHasBody w (m) then some (σ 22 (m)) else none)) 171 10 zk_X9 (hX.mem (by omega) (by omega)) (by decide) q683 (Or.inl rfl) rfl dX0_member_168 rfl ?_
        by_cases hHB : xHasBody w m = true
        · rw [if_pos hHB]
          refine z_as (st' := [.ref (σ 22 (m))]) (lv' := [(0, .ref (σ 0 (0))), (1, .int (iI (m))), (2, .int (iI (k))), (3, .ref (σ 20 (m)))]) rfl rfl rfl ?_
          refine z_ifnonnull C 178 dX0_member_171 (by decide) ?_
          refine z_aload_n C 179 3 dX0_member_178 rfl rfl ?_
          refine z_getf C hκ (v := va_rf (if xHasBody w (m) then some (σ 22 (m)) else none)) 182 10 zk_X9 (hX.mem (by omega) (by omega)) (by decide) q683 (Or.inl rfl) rfl dX0_member_179 rfl ?_
          rw [if_pos hHB]
          refine z_as (st' := [.ref (σ 22 (m))]) rfl rfl rfl ?_
          refine xv_kind (rest := []) C hκ hκl hT (σ 22 (m)) m (hX.bd (by omega) (by omega) hHB) (h22 m (by omega) (by omega)) 185 dX0_member_182 q1144 (Nat.le_of_ble_eq_true rfl) (Nat.le_of_ble_eq_true rfl) (Nat.le_of_ble_eq_true rfl) (Nat.le_of_ble_eq_true rfl) (Nat.le_of_ble_eq_true rfl) rfl ?_
          refine z_as (st' := [.int (iI (w 22 (m)))]) rfl rfl rfl ?_
          exact z_iret C dX0_member_185 rfl (Nat.le_of_ble_eq_true rfl) (Nat.le_of_ble_eq_true rfl) ⟨congrArg (fun z => some (Value.int (iI z))) (by clear C hκ hκl hS hB hB1 hB2 hB3 hB4 hB5 hB6 hC hw hX hs hT h81 h82 f3a f3b f3c f3d; clear h22; rw [mbI_in (by omega) (by omega)]; first | (simp_all [bI, xHasBody]; done) | (simp_all [bI, xHasBody] <;> omega)), rfl⟩
        · rw [if_neg hHB]
          refine z_as (st' := [.null]) (lv' := [(0, .ref (σ 0 (0))), (1, .int (iI (m))), (2, .int (iI (k))), (3, .ref (σ 20 (m)))]) rfl rfl rfl ?_
          refine z_ifnonnullN C 174 dX0_member_171 rfl ?_
          refine z_iconst C 175 dX0_member_174 rfl ?_
          refine z_goto C 185 dX0_member_175 (by decide) ?_
          exact z_iret C dX0_member_185 rfl (Nat.le_of_ble_eq_true rfl) (Nat.le_of_ble_eq_true rfl) ⟨congrArg (fun z => some (Value.int (iI z))) (by clear C hκ hκl hS hB hB1 hB2 hB3 hB4 hB5 hB6 hC hw hX hs hT h81 h82 f3a f3b f3c f3d; clear h22; rw [mbI_in (by omega) (by omega)]; first | (simp_all [bI, xHasBody]; done) | (simp_all [bI, xHasBody] <;> omega)), rfl⟩
      · skip
        refine z_tsOut C 186 dX0_member_31 c4r c4 (by decide) ?_
        refine z_iload_n C 187 2 dX0_member_186 rfl rfl ?_
        refine z_bipush C 189 dX0_member_187 (by decide) rfl ?_
        refine z_isub C 190 dX0_member_189 rfl ?_
        refine z_aload_n C 191 3 dX0_member_190 rfl rfl ?_
        refine z_getf C hκ (v := .int (iI (w 18 (m)))) 194 7 zk_X9 (hX.mem (by omega) (by omega)) (by decide) q680 (Or.inl rfl) rfl dX0_member_191 rfl ?_
        refine z_icmp_ge C 212 197 dX0_member_194 (by decide) ⟨by omega, by omega⟩ (hw.r _ _ rfl) rfl (fun c18 => ?_) (fun c18 => ?_)
        · skip
          refine z_iconst C 213 dX0_member_212 rfl ?_
          exact z_iret C dX0_member_213 rfl (Nat.le_of_ble_eq_true rfl) (Nat.le_of_ble_eq_true rfl) ⟨congrArg (fun z => some (Value.int (iI z))) (by clear C hκ hκl hS hB hB1 hB2 hB3 hB4 hB5 hB6 hC hw hX hs hT h81 h82 f3a f3b f3c f3d; clear h22; rw [mbI_in (by omega) (by omega)]; first | (simp_all [bI, xHasBody]; done) | (simp_all [bI, xHasBody] <;> omega)), rfl⟩
        · skip
          refine z_aload_n C 198 3 dX0_member_197 rfl rfl ?_
          refine z_getf C hκ (v := .ref (σ 21 (m))) 201 6 zk_X9 (hX.mem (by omega) (by omega)) (by decide) q676 (Or.inl rfl) rfl dX0_member_198 rfl ?_
          refine z_iload_n C 202 2 dX0_member_201 rfl rfl ?_
          refine z_bipush C 204 dX0_member_202 (by decide) rfl ?_
          refine z_isub C 205 dX0_member_204 rfl ?_
          have hz6 := (hS.M (show 0 ≤ m by omega) (by omega)).2.2.2 (k - 6) (by omega) (by omega)
          refine x_apm C hκ 206 hX hs (by omega) (by omega) (by omega) (by omega) dX0_member_205 rfl ?_
          obtain ⟨f19a, f19b, f19c, f19d, f19e, f19f, f19g, f19h⟩ := hS.T (show 0 ≤ w 19 (3 * (m) + ((k) - (6))) by omega) (by omega)
          obtain ⟨f19i, f19j, f19k, f19l⟩ := hs.ty (show 0 ≤ w 19 (3 * (m) + ((k) - (6))) by omega) (by omega)
          refine xv_number (rest := []) C hκ hκl hX hs hw hT (w 19 (3 * (m) + ((k) - (6))))   ⟨(by omega), (by omega)⟩  209 dX0_member_206 q396 (Nat.le_of_ble_eq_true rfl) (Nat.le_of_ble_eq_true rfl) (Nat.le_of_ble_eq_true rfl) (Nat.le_of_ble_eq_true rfl) (Nat.le_of_ble_eq_true rfl) rfl ?_
          refine z_as (st' := [.int (iI ((w 19 (3 * (m) + ((k) - (6))))))]) rfl rfl rfl ?_
          refine z_goto C 213 dX0_member_209 (by decide) ?_
          exact z_iret C dX0_member_213 rfl (Nat.le_of_ble_eq_true rfl) (Nat.le_of_ble_eq_true rfl) ⟨congrArg (fun z => some (Value.int (iI z))) (by clear C hκ hκl hS hB hB1 hB2 hB3 hB4 hB5 hB6 hC hw hX hs hT h81 h82 f3a f3b f3c f3d f19a f19b f19c f19d f19e f19f f19g f19h f19i f19j f19k f19l; clear h22; rw [mbI_in (by omega) (by omega)]; first | (simp_all [bI, xHasBody]; done) | (simp_all [bI, xHasBody] <;> omega)), rfl⟩
    · skip
      have c2b : ¬ (((0) ≤ (k) ∧ (k) ≤ (10))) := of_decide_eq_false c2
      refine z_bipush C 22 dX0_member_20 (by decide) rfl ?_
      exact z_iret C dX0_member_22 rfl (Nat.le_of_ble_eq_true rfl) (Nat.le_of_ble_eq_true rfl) ⟨congrArg (fun z => some (Value.int (iI z))) (by clear C hκ hκl hS hB hB1 hB2 hB3 hB4 hB5 hB6 hC hw hX hs hT h81 h82; clear h22; unfold mbI; rw [if_pos (by first | (simp_all; done) | (simp_all [mbB] <;> omega))]), rfl⟩
