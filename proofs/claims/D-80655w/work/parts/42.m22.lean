/-! ===== the Model: a call asked ===== -/
def ce1 (w : mW) (m x : Int) : Int := if !mcB w m x then 6 else agI w m x
def ce2 (w : mW) (m x n : Int) : Int := if ce1 w m x = 0 then (if n = w 18 m then 0 else 2) else ce1 w m x
def sgN (w : mW) (m : Int) : Nat → Bool := fun k => sgB w k (w 19 (3 * m + k))
def ce3 (w : mW) (m x n : Int) (k : Nat) : Int := if ce2 w m x n = 0 ∧ allN (sgN w m) k = false then 2 else ce2 w m x n
def caE (w : mW) (m x n : Int) : Int := ce3 w m x n n.toNat
def coB (w : mW) (m x n s : Int) : Bool := mtB w m && tnB w x && decide (0 ≤ n ∧ n ≤ 3) && slB s
def agW (w : mW) (m : Int) : Nat → mW
  | 0 => w
  | k + 1 => mset (agW w m k) 47 k (wdL (w 33 k) (w 32 k) (w 19 (3 * m + k)))
def c1W (w : mW) (m x n : Int) : mW := mset (agW w m n.toNat) 48 0 x
def c2W (w g : mW) (m s : Int) : mW := if 0 < g 51 0 then mset g 36 0 (g 36 0 + 1) else if w 17 m = -1 then layW g s 4 0 else layW g s (if w 17 m < 8 then w 17 m else 8) (g 50 0)
def coI (w : mW) (m x n s : Int) : Int := if !coB w m x n s then -1 else if 0 < caE w m x n then -10 - caE w m x n else if 0 < goW (c1W w m x n) m 51 0 then -19 else 1
def coW (w : mW) (m x n s : Int) : mW := if coB w m x n s && decide (caE w m x n = 0) then c2W w (goW (c1W w m x n) m) m s else w
theorem agW_k {w : mW} {m : Int} {k : Nat} (hk : k ≠ 47) : ∀ (n : Nat) (i : Int), agW w m n k i = w k i
  | 0, _ => rfl
  | n + 1, i => by simp only [agW]; rw [mset_k hk, agW_k hk n i]
theorem agW_47 {w : mW} {m : Int} : ∀ {n j : Nat}, j < n → agW w m n 47 j = wdL (w 33 j) (w 32 j) (w 19 (3 * m + j))
  | 0, _, h => absurd h (Nat.not_lt_zero _)
  | n + 1, j, h => by
    simp only [agW]
    by_cases e : j = n
    · subst e; rw [mset_s]
    · rw [mset_i (by omega)]; exact agW_47 (by omega)
theorem agW_wf {w : mW} {m : Int} (hw : mWF w) : ∀ n : Nat, mWF (agW w m n)
  | 0 => hw
  | n + 1 => (agW_wf hw n).setL (wdL_L (hw.l _ _)) rfl rfl
theorem ce1_r {w : mW} {m x : Int} : 0 ≤ ce1 w m x ∧ ce1 w m x ≤ 6 := by have := agI_r (w := w) (m := m) (x := x); unfold ce1; split <;> omega
theorem ce3_r {w : mW} {m x n : Int} {k : Nat} : 0 ≤ ce3 w m x n k ∧ ce3 w m x n k ≤ 6 := by
  have := ce1_r (w := w) (m := m) (x := x)
  unfold ce3 ce2
  (repeat' split) <;> omega
theorem ce3_late {w : mW} {m x n : Int} {k : Nat} (hk : k ≤ n.toNat) (h : ce3 w m x n k ≠ 0 ∨ n.toNat ≤ k) : ce3 w m x n k = caE w m x n := by
  rcases h with h | h
  · unfold caE ce3 at *
    by_cases h2 : ce2 w m x n = 0
    · by_cases ha : allN (sgN w m) k = false
      · rw [if_pos ⟨h2, ha⟩, if_pos ⟨h2, Bool.eq_false_iff.mpr fun z => by rw [allN_mono hk z] at ha; cases ha⟩]
      · rw [if_neg (fun z => ha z.2)] at h; omega
    · rw [if_neg (fun z => h2 z.1), if_neg (fun z => h2 z.1)]
  · unfold caE; rw [show k = n.toNat by omega]
theorem caE_0 {w : mW} {m x n : Int} (h : caE w m x n = 0) : mcB w m x = true ∧ agI w m x = 0 ∧ n = w 18 m ∧ ∀ k : Nat, k < n.toNat → sgB w k (w 19 (3 * m + k)) = true := by
  unfold caE ce3 at h
  split at h
  · omega
  · rename_i h1
    have h2 := h
    unfold ce2 at h2
    split at h2
    · rename_i h3
      have hn : n = w 18 m := by split at h2; assumption; omega
      have hal : allN (sgN w m) n.toNat = true := by
        by_cases z : allN (sgN w m) n.toNat = true
        · exact z
        · exact absurd ⟨h, by simpa using z⟩ h1
      unfold ce1 at h3
      split at h3
      · omega
      · rename_i h4
        exact ⟨by simpa using h4, h3, hn, fun k hk => allN_t.mp hal k hk⟩
    · omega
theorem sg_ag {w : mW} (hV : mV w) {k t : Int} (hk : 0 ≤ k ∧ k < 8) (h32 : 0 ≤ w 32 k) (h : sgB w k t = true) : agB w t (wdL (w 33 k) (w 32 k) t) = true := by
  have hf := hV.1 k hk.1 hk.2
  unfold sgB at h
  by_cases h8 : w 32 k < 8
  · rw [if_pos h8, Bool.and_eq_true, decide_eq_true_eq] at h
    have hg : giB w (w 32 k) t = true := by unfold giB; rw [if_pos h8]; simp [h.1, h.2]
    unfold agB
    rw [wd_ft hf hg h32]
    simp [h.1]
  · rw [if_neg h8, Bool.and_eq_true, decide_eq_true_eq] at h
    have e : wdL (w 33 k) (w 32 k) t = w 33 k := by unfold wdL; rw [if_pos (by omega)]
    rw [e]
    have := ft8 hf (by omega)
    unfold agB
    rw [Bool.and_eq_true]
    refine ⟨?_, ?_⟩
    · unfold ftB
      rw [if_neg (by omega), if_neg (by omega), if_neg (by omega), if_neg (by omega), if_neg (by omega), if_neg (by omega), if_neg (by omega), if_neg (by omega)]
      simp; omega
    · have h2 := h.2
      simp only [Bool.or_eq_true, decide_eq_true_eq] at h2 ⊢
      rcases h2 with h2 | h2
      · exact Or.inl (Or.inr h2)
      · exact Or.inr h2
theorem c1_S {w : mW} {m x n : Int} : sS w (c1W w m x n) := fun k i h => by unfold c1W; rw [mset_k (by omega), agW_k (by omega)]
theorem co_go {w : mW} (hP : caP w) {m x n s : Int} (hB : coB w m x n s = true) (hE : caE w m x n = 0) (h35 : 0 ≤ w 35 0 ∧ w 35 0 ≤ 999900) : goP (c1W w m x n) m := by
  obtain ⟨hS, hV, hbd, hT⟩ := hP
  unfold coB at hB
  simp only [Bool.and_eq_true] at hB
  obtain ⟨⟨⟨b1, b2⟩, b3⟩, b4⟩ := hB
  have b1' := of_decide_eq_true b1
  have b2 := of_decide_eq_true b2
  have b3 := of_decide_eq_true b3
  obtain ⟨e1, e2, e3, e4⟩ := caE_0 hE
  have h18 := (hS.M b1'.1 b1'.2.1).2.1
  have e48 : c1W w m x n 48 0 = x := by unfold c1W; rw [mset_s]
  have hSS := c1_S (w := w) (m := m) (x := x) (n := n)
  refine ⟨⟨mS_S hSS hS, mV_e hSS hV, mBd_e hSS hbd, mTy_e hSS hT⟩, by rw [mtB_e (hSS 11 0 (by decide)) (fun i => hSS 16 i (by decide))]; exact b1, fun h => ?_, fun i h0 hi => ?_, ?_⟩
  · have e4 : hasB (c1W w m x n) m 4 = hasB w m 4 := S_of (fun w => hasB w m 4) (fun _ => rfl) hSS
    rw [e4] at h
    rw [e48, hSS 27 0 (by decide)]
    rcases agI_0 e2 with h2 | h2
    · rw [h] at h2; cases h2
    · rcases b2 with b2 | b2
      · exact absurd b2 h2.1
      · exact b2
  · rw [hSS 18 _ (by decide)] at hi
    rw [agB_e hSS, hSS 19 _ (by decide)]
    have e47 : c1W w m x n 47 i = wdL (w 33 i) (w 32 i) (w 19 (3 * m + i)) := by
      unfold c1W
      rw [mset_k (by decide)]
      have := agW_47 (w := w) (m := m) (n := n.toNat) (j := i.toNat) (by omega)
      rw [show ((i.toNat : Nat) : Int) = i by omega] at this
      exact this
    rw [e47]
    have := e4 i.toNat (by omega)
    rw [show ((i.toNat : Nat) : Int) = i by omega] at this
    exact sg_ag hV ⟨h0, by omega⟩ (hS.L h0 (by omega)).1.1 this
  · have e35 : c1W w m x n 35 0 = w 35 0 := by unfold c1W; rw [mset_k (by decide), agW_k (by decide)]
    rw [e35]; exact h35
theorem c1_wf {w : mW} {m x n : Int} (hw : mWF w) (hx : inR x) : mWF (c1W w m x n) := (agW_wf hw _).set hx rfl
theorem layW_wf {w : mW} {s a b : Int} (hw : mWF w) (ha : inR a) (hb : inL b) : mWF (layW w s a b) := (hw.set ha rfl).setL hb rfl rfl
theorem c2_wf {w g : mW} {m s : Int} (hw : mWF w) (hg : mWF g) (h36 : 0 ≤ g 36 0 ∧ g 36 0 ≤ 1000000) : mWF (c2W w g m s) := by
  unfold c2W
  split
  · exact hg.set ⟨by omega, by omega⟩ rfl
  · split
    · exact layW_wf hg ⟨by decide, by decide⟩ ⟨by decide, by decide⟩
    · refine layW_wf hg ?_ (hg.l _ _)
      split
      · exact hw.r _ _ rfl
      · exact ⟨by decide, by decide⟩
theorem ce3_18 {w : mW} {m x n : Int} {k : Nat} (h : ce3 w m x n k = 0) : n = w 18 m ∧ ce2 w m x n = 0 ∧ allN (sgN w m) k = true := by
  unfold ce3 at h
  by_cases h1 : ce2 w m x n = 0 ∧ allN (sgN w m) k = false
  · rw [if_pos h1] at h; omega
  · rw [if_neg h1] at h
    have ha : allN (sgN w m) k = true := by
      by_cases z : allN (sgN w m) k = true
      · exact z
      · exact absurd ⟨h, by simpa using z⟩ h1
    refine ⟨?_, h, ha⟩
    unfold ce2 at h
    by_cases h2 : ce1 w m x = 0
    · rw [if_pos h2] at h
      by_cases h3 : n = w 18 m
      · exact h3
      · rw [if_neg h3] at h; omega
    · rw [if_neg h2] at h; exact absurd h h2
theorem ce3_step {w : mW} {m x n : Int} {k : Nat} (h : ce3 w m x n k = 0) : ce3 w m x n (k + 1) = if sgB w k (w 19 (3 * m + k)) = true then 0 else 2 := by
  obtain ⟨h1, h2, h3⟩ := ce3_18 h
  have e : allN (sgN w m) (k + 1) = sgB w k (w 19 (3 * m + k)) := by
    show (allN (sgN w m) k && sgN w m k) = _
    rw [h3, Bool.true_and]; rfl
  unfold ce3
  rw [e]
  by_cases hs : sgB w k (w 19 (3 * m + k)) = true
  · rw [if_neg (fun z => by rw [hs] at z; cases z.2), if_pos hs]; exact h2
  · rw [if_pos ⟨h2, by simpa using hs⟩, if_neg hs]

set_option maxRecDepth 100000 in
theorem k7_call {l : Launch} {θ : zTh} {N : zMap} {am : Nat} {ar : Nat → Nat} {w : mW} (hD : mDis am ar) (hw : mWF w) (m : Int) (x : Int) (n : Int) (s : Int) (r_m : inR m) (r_x : inR x) (r_n : inR n) (r_s : inR s) (hS : mS w) (hP : caP w) (h35 : 0 ≤ w 35 0 ∧ w 35 0 ≤ 999900) (h36 : 0 ≤ w 36 0 ∧ w 36 0 ≤ 999900) : ZF θ l yX7_call cX7_call 7 (some .int) ⟨7, 0, 0, 164⟩ [.ref (am), .int (iI (m)), .int (iI (x)), .int (iI (n)), .int (iI (s))] (mP θ am ar w N) (some (.int (iI (coI w m x n s)))) (mP θ am ar (coW w m x n s) N) := by
  refine z_start (own := RX7) (nm := "call") pnX7 rfl rfl (Nat.le_of_ble_eq_true rfl) ?_
  intro κ hκ hκl C
  change Z κ (mP θ am ar w N) 0 0 0 [(0, .ref (am)), (1, .int (iI (m))), (2, .int (iI (x))), (3, .int (iI (n))), (4, .int (iI (s)))] []
  have hB := hS.B
  obtain ⟨hB1, hB2, hB3, hB4, hB5, hB6⟩ := hS.B
  have hC := hS.C
  have L144_1 : ∀ (fu : Nat) (j : Nat) (w' : mW) (hB : coB w m x n s = true) (hE0 : caE w m x n = 0) (hj : (j : Int) ≤ n) (ew : w' = agW w m j) (hw' : mWF w') (hme : n.toNat - j < fu), Z κ (mP θ am ar w' N) 0 0 144 [(0, .ref (am)), (1, .int (iI (m))), (2, .int (iI (x))), (3, .int (iI (n))), (4, .int (iI (s))), (6, .int (iI ((j : Int))))] [] := by
    intro fu
    induction fu with
    | zero => intro j w' hB hE0 hj ew hw' hme; exact absurd hme (Nat.not_lt_zero _)
    | succ fu ih2 =>
      intro j w' hB hE0 hj ew hw' hme
      obtain ⟨z1, z2, z3, z4⟩ := caE_0 hE0
      have e9 : ∀ (k : Nat) (i : Int), k ≠ 47 → w' k i = w k i := fun k' i h => by rw [ew]; exact agW_k h _ i
      have hS' : mS w' := mS_S (fun k i hk => e9 k i (by omega)) hS
      have hB0 := hB; unfold coB at hB0; simp only [Bool.and_eq_true] at hB0; have hb1 := of_decide_eq_true hB0.1.1.1; have hb2 := of_decide_eq_true hB0.1.1.2; have hb3 := of_decide_eq_true hB0.1.2; have hb4 := of_decide_eq_true hB0.2; obtain ⟨ma, mb1, mc, md⟩ := hS.M hb1.1 hb1.2.1
      refine z_iload C 146 5 dX7_call_144 rfl rfl ?_
      refine z_iload_n C 147 3 dX7_call_146 rfl rfl ?_
      refine z_icmp_ge C 191 150 dX7_call_147 (by decide) ⟨by omega, by omega⟩ r_n rfl (fun c3 => ?_) (fun c3 => ?_)
      · skip
        refine z_aload_n C 192 0 dX7_call_191 rfl rfl ?_
        refine z_iload_n C 193 2 dX7_call_192 rfl rfl ?_
        obtain ⟨w1, ew1⟩ : ∃ wz, mset w' 48 (0) (x) = wz := ⟨_, rfl⟩
        have hw1 : mWF w1 := ew1 ▸ hw'.set r_x rfl
        refine m_puti (w' := w1) C hκ 196 48 (by decide) (by decide) rfl q2043 rfl rfl rfl rfl dX7_call_193 rfl ew1 ?_
        have hc1 : c1W w m x n = w1 := by unfold c1W; rw [← ew1, ew, show n.toNat = j by omega]
        have hgP : goP w1 m := hc1 ▸ co_go hP hB hE0 h35
        have hgo := go_ok hw1 hgP
        have e36 : w1 36 0 = w 36 0 := by rw [← hc1]; unfold c1W; rw [mset_k (by decide), agW_k (by decide)]
        have hSS : sS w w1 := hc1 ▸ c1_S
        refine z_aload_n C 197 0 dX7_call_196 rfl rfl ?_
        refine z_iload_n C 198 1 dX7_call_197 rfl rfl ?_
        refine z_callVF0 (n' := 0) (k' := 0) (As := [.int (iI (m))]) (rest := []) C hκ hκl 201 (k7_goes hD hw1 (m) r_m hgP) dX7_call_198 q2524 q2526 qs81 q97 q2527 znX7_goes (Nat.le_of_ble_eq_true rfl) (Nat.le_of_ble_eq_true rfl) (Nat.le_of_ble_eq_true rfl) (Nat.le_of_ble_eq_true rfl) mrec rfl rfl (Nat.le_of_ble_eq_true rfl) rfl rfl rfl ?_
        obtain ⟨w2, ew2⟩ : ∃ wz, (goW w1 (m)) = wz := ⟨_, rfl⟩
        rw [ew2]
        have hw2 : mWF w2 := ew2 ▸ (go_ok hw1 hgP).1
        rw [ew2] at hgo
        obtain ⟨g1, g2, g3, g4, g5, g6, g7⟩ := hgo
        have h17 : w2 17 m = w 17 m := (g2 17 m (by decide) (by decide) (by decide)).trans (hSS 17 m (by decide))
        have h11 : w2 11 0 = w 11 0 := (g2 11 0 (by decide) (by decide) (by decide)).trans (hSS 11 0 (by decide))
        have hSg : mS w2 := mS_G g2 (mS_S hSS hS)
        rw [e36] at g6
        have hgw : goW (c1W w m x n) m = w2 := by rw [hc1]; exact ew2
        refine z_aload_n C 202 0 dX7_call_201 rfl rfl ?_
        refine m_geti C hκ 205 51 (by decide) rfl q2046 rfl dX7_call_202 rfl ?_
        refine z_if_le C 221 208 dX7_call_205 (by decide) (hw2.r _ _ rfl) rfl (fun c4 => ?_) (fun c4 => ?_)
        · skip
          refine z_aload_n C 222 0 dX7_call_221 rfl rfl ?_
          refine m_geta C hκ 225 17 (by decide) rfl q2012 rfl dX7_call_222 rfl ?_
          refine z_iload_n C 226 1 dX7_call_225 rfl rfl ?_
          obtain ⟨f5a, f5b, f5c, f5d⟩ := hSg.M (show 0 ≤ m by omega) (by omega)
          refine m_iald (len := 100) C hκ hD 227 17 (by decide) rfl rfl (by omega) (by omega) dX7_call_226 rfl ?_
          refine z_iconst C 228 dX7_call_227 rfl ?_
          refine z_icmp_ne C 242 231 dX7_call_228 (by decide) (hw2.r _ _ rfl) ⟨by decide, by decide⟩ rfl (fun c6 => ?_) (fun c6 => ?_)
          · skip
            refine z_aload_n C 243 0 dX7_call_242 rfl rfl ?_
            refine z_iload C 245 4 dX7_call_243 rfl rfl ?_
            refine z_aload_n C 246 0 dX7_call_245 rfl rfl ?_
            refine m_geta C hκ 249 17 (by decide) rfl q2012 rfl dX7_call_246 rfl ?_
            refine z_iload_n C 250 1 dX7_call_249 rfl rfl ?_
            refine m_iald (len := 100) C hκ hD 251 17 (by decide) rfl rfl (by omega) (by omega) dX7_call_250 rfl ?_
            refine z_bipush C 253 dX7_call_251 (by decide) rfl ?_
            refine z_icmp_ge C 265 256 dX7_call_253 (by decide) (hw2.r _ _ rfl) ⟨by decide, by decide⟩ rfl (fun c7 => ?_) (fun c7 => ?_)
            · skip
              refine z_bipush C 267 dX7_call_265 (by decide) rfl ?_
              refine z_aload_n C 268 0 dX7_call_267 rfl rfl ?_
              refine m_getl C hκ 271 50 (by decide) rfl q2045 rfl dX7_call_268 rfl ?_
              refine z_callVF0 (n' := 0) (k' := 0) (As := [.int (iI (s)), .int (iI (8)), .long (lI (w2 50 0))]) (rest := []) C hκ hκl 274 (k7_lay hD hw2 (s) (8) (w2 50 0) r_s ⟨by decide, by decide⟩ (hw2.l _ _) (by omega)) dX7_call_271 q2396 q2398 qs68 q97 q2399 znX7_lay (Nat.le_of_ble_eq_true rfl) (Nat.le_of_ble_eq_true rfl) (Nat.le_of_ble_eq_true rfl) (Nat.le_of_ble_eq_true rfl) mrec rfl rfl (Nat.le_of_ble_eq_true rfl) rfl rfl rfl ?_
              obtain ⟨w3, ew3⟩ : ∃ wz, (layW w2 (s) (8) (w2 50 0)) = wz := ⟨_, rfl⟩
              rw [ew3]
              have hw3 : mWF w3 := ew3 ▸ ((hw2.set ⟨by decide, by decide⟩ rfl).setL (hw2.l _ _) rfl rfl)
              refine z_iconst C 275 dX7_call_274 rfl ?_
              exact z_iret C dX7_call_275 rfl (Nat.le_of_ble_eq_true rfl) (Nat.le_of_ble_eq_true rfl) ⟨congrArg (fun z => some (Value.int (iI z))) (by unfold coI; rw [if_neg (by simp [hB]), if_neg (by omega), hgw, if_neg (by omega)]), (congrArg (fun w' => mP θ am ar w' N) (by unfold coW; rw [if_pos (by rw [hB, hE0]; rfl), hgw]; unfold c2W; rw [if_neg (by omega), ← h17]; first | (rw [if_pos (by omega)]; exact (ew3).symm) | (rw [if_neg (by omega), if_pos (by omega)]; exact (ew3).symm) | (rw [if_neg (by omega), if_neg (by omega)]; exact (ew3).symm)))⟩
            · skip
              refine z_aload_n C 257 0 dX7_call_256 rfl rfl ?_
              refine m_geta C hκ 260 17 (by decide) rfl q2012 rfl dX7_call_257 rfl ?_
              refine z_iload_n C 261 1 dX7_call_260 rfl rfl ?_
              refine m_iald (len := 100) C hκ hD 262 17 (by decide) rfl rfl (by omega) (by omega) dX7_call_261 rfl ?_
              refine z_goto C 267 dX7_call_262 (by decide) ?_
              refine z_aload_n C 268 0 dX7_call_267 rfl rfl ?_
              refine m_getl C hκ 271 50 (by decide) rfl q2045 rfl dX7_call_268 rfl ?_
              refine z_callVF0 (n' := 0) (k' := 0) (As := [.int (iI (s)), .int (iI (w2 17 (m))), .long (lI (w2 50 0))]) (rest := []) C hκ hκl 274 (k7_lay hD hw2 (s) (w2 17 (m)) (w2 50 0) r_s (hw2.r _ _ rfl) (hw2.l _ _) (by omega)) dX7_call_271 q2396 q2398 qs68 q97 q2399 znX7_lay (Nat.le_of_ble_eq_true rfl) (Nat.le_of_ble_eq_true rfl) (Nat.le_of_ble_eq_true rfl) (Nat.le_of_ble_eq_true rfl) mrec rfl rfl (Nat.le_of_ble_eq_true rfl) rfl rfl rfl ?_
              obtain ⟨w4, ew4⟩ : ∃ wz, (layW w2 (s) (w2 17 (m)) (w2 50 0)) = wz := ⟨_, rfl⟩
              rw [ew4]
              have hw4 : mWF w4 := ew4 ▸ ((hw2.set (hw2.r _ _ rfl) rfl).setL (hw2.l _ _) rfl rfl)
              refine z_iconst C 275 dX7_call_274 rfl ?_
              exact z_iret C dX7_call_275 rfl (Nat.le_of_ble_eq_true rfl) (Nat.le_of_ble_eq_true rfl) ⟨congrArg (fun z => some (Value.int (iI z))) (by unfold coI; rw [if_neg (by simp [hB]), if_neg (by omega), hgw, if_neg (by omega)]), (congrArg (fun w' => mP θ am ar w' N) (by unfold coW; rw [if_pos (by rw [hB, hE0]; rfl), hgw]; unfold c2W; rw [if_neg (by omega), ← h17]; first | (rw [if_pos (by omega)]; exact (ew4).symm) | (rw [if_neg (by omega), if_pos (by omega)]; exact (ew4).symm) | (rw [if_neg (by omega), if_neg (by omega)]; exact (ew4).symm)))⟩
          · skip
            refine z_aload_n C 232 0 dX7_call_231 rfl rfl ?_
            refine z_iload C 234 4 dX7_call_232 rfl rfl ?_
            refine z_iconst C 235 dX7_call_234 rfl ?_
            refine z_lconst (x := 0) C 236 dX7_call_235 rfl rfl ?_
            refine z_callVF0 (n' := 0) (k' := 0) (As := [.int (iI (s)), .int (iI (4)), .long (lI (0))]) (rest := []) C hκ hκl 239 (k7_lay hD hw2 (s) (4) (0) r_s ⟨by decide, by decide⟩ ⟨by decide, by decide⟩ (by omega)) dX7_call_236 q2396 q2398 qs68 q97 q2399 znX7_lay (Nat.le_of_ble_eq_true rfl) (Nat.le_of_ble_eq_true rfl) (Nat.le_of_ble_eq_true rfl) (Nat.le_of_ble_eq_true rfl) mrec rfl rfl (Nat.le_of_ble_eq_true rfl) rfl rfl rfl ?_
            obtain ⟨w5, ew5⟩ : ∃ wz, (layW w2 (s) (4) (0)) = wz := ⟨_, rfl⟩
            rw [ew5]
            have hw5 : mWF w5 := ew5 ▸ ((hw2.set ⟨by decide, by decide⟩ rfl).setL ⟨by decide, by decide⟩ rfl rfl)
            refine z_goto C 274 dX7_call_239 (by decide) ?_
            refine z_iconst C 275 dX7_call_274 rfl ?_
            exact z_iret C dX7_call_275 rfl (Nat.le_of_ble_eq_true rfl) (Nat.le_of_ble_eq_true rfl) ⟨congrArg (fun z => some (Value.int (iI z))) (by unfold coI; rw [if_neg (by simp [hB]), if_neg (by omega), hgw, if_neg (by omega)]), (congrArg (fun w' => mP θ am ar w' N) (by unfold coW; rw [if_pos (by rw [hB, hE0]; rfl), hgw]; unfold c2W; rw [if_neg (by omega), ← h17]; first | (rw [if_pos (by omega)]; exact (ew5).symm) | (rw [if_neg (by omega), if_pos (by omega)]; exact (ew5).symm) | (rw [if_neg (by omega), if_neg (by omega)]; exact (ew5).symm)))⟩
        · skip
          refine z_aload_n C 209 0 dX7_call_208 rfl rfl ?_
          refine z_dup C 210 dX7_call_209 rfl rfl ?_
          refine m_geti C hκ 213 36 (by decide) rfl q2031 rfl dX7_call_210 rfl ?_
          refine z_iconst C 214 dX7_call_213 rfl ?_
          refine z_iadd C 215 dX7_call_214 rfl ?_
          obtain ⟨w6, ew6⟩ : ∃ wz, mset w2 36 (0) ((w2 36 0) + (1)) = wz := ⟨_, rfl⟩
          have hw6 : mWF w6 := ew6 ▸ hw2.set ⟨by omega, by omega⟩ rfl
          refine m_puti (w' := w6) C hκ 218 36 (by decide) (by decide) rfl q2031 rfl rfl rfl rfl dX7_call_215 rfl ew6 ?_
          refine z_bipush C 220 dX7_call_218 (by decide) rfl ?_
          exact z_iret C dX7_call_220 rfl (Nat.le_of_ble_eq_true rfl) (Nat.le_of_ble_eq_true rfl) ⟨congrArg (fun z => some (Value.int (iI z))) (by unfold coI; rw [if_neg (by simp [hB]), if_neg (by omega), hgw, if_pos (by omega)]), (congrArg (fun w' => mP θ am ar w' N) (by unfold coW; rw [if_pos (by rw [hB, hE0]; rfl), hgw]; unfold c2W; rw [if_pos (by omega)]; exact (ew6).symm))⟩
      · skip
        refine z_aload_n C 151 0 dX7_call_150 rfl rfl ?_
        refine m_geta C hκ 154 47 (by decide) rfl q2042 rfl dX7_call_151 rfl ?_
        refine z_iload C 156 5 dX7_call_154 rfl rfl ?_
        refine z_aload_n C 157 0 dX7_call_156 rfl rfl ?_
        refine m_geta C hκ 160 33 (by decide) rfl q2028 rfl dX7_call_157 rfl ?_
        refine z_iload C 162 5 dX7_call_160 rfl rfl ?_
        obtain ⟨f8a, f8b⟩ := hS'.L (show 0 ≤ (j : Int) by omega) (by omega)
        refine m_lald (len := 8) C hκ hD 163 33 (by decide) rfl rfl (by omega) (by omega) dX7_call_162 rfl ?_
        refine z_aload_n C 164 0 dX7_call_163 rfl rfl ?_
        refine m_geta C hκ 167 32 (by decide) rfl q2027 rfl dX7_call_164 rfl ?_
        refine z_iload C 169 5 dX7_call_167 rfl rfl ?_
        refine m_iald (len := 8) C hκ hD 170 32 (by decide) rfl rfl (by omega) (by omega) dX7_call_169 rfl ?_
        refine z_aload_n C 171 0 dX7_call_170 rfl rfl ?_
        refine m_geta C hκ 174 19 (by decide) rfl q2014 rfl dX7_call_171 rfl ?_
        refine z_iconst C 175 dX7_call_174 rfl ?_
        refine z_iload_n C 176 1 dX7_call_175 rfl rfl ?_
        refine z_imul C 177 dX7_call_176 rfl ?_
        refine z_iload C 179 5 dX7_call_177 rfl rfl ?_
        refine z_iadd C 180 dX7_call_179 rfl ?_
        refine m_iald (len := 300) C hκ hD 181 19 (by decide) rfl rfl (by omega) (by omega) dX7_call_180 rfl ?_
        refine z_callSF (n' := 0) (k' := 0) (As := [.long (lI (w' 33 ((j : Int)))), .int (iI (w' 32 ((j : Int)))), .int (iI (w' 19 (((3) * (m)) + ((j : Int)))))]) (rest := [.int (iI ((j : Int))), .ref (ar 47)]) C hκ hκl 184 (k7_widened (w' 33 ((j : Int))) (w' 32 ((j : Int))) (w' 19 (((3) * (m)) + ((j : Int)))) (hw'.l _ _) (hw'.r _ _ rfl) (hw'.r _ _ rfl) (by rw [e9 32 _ (by decide), e9 33 _ (by decide)]; exact ft6 (hP.2.1.1 j (by omega) (by omega)))) dX7_call_181 q2428 q2429 q97 q2430 znX7_widened (Nat.le_of_ble_eq_true rfl) (Nat.le_of_ble_eq_true rfl) (Nat.le_of_ble_eq_true rfl) (Nat.le_of_ble_eq_true rfl) rfl (Nat.le_of_ble_eq_true rfl) rfl rfl rfl ?_
        obtain ⟨w7, ew7⟩ : ∃ wz, mset w' 47 ((j : Int)) (wdL (w' 33 ((j : Int))) (w' 32 ((j : Int))) (w' 19 (((3) * (m)) + ((j : Int))))) = wz := ⟨_, rfl⟩
        have hw7 : mWF w7 := ew7 ▸ hw'.setL (wdL_L (hw'.l _ _)) rfl rfl
        refine m_last (len := 42) (w' := w7) C hκ hD 185 47 (by decide) rfl rfl (by omega) (by omega) dX7_call_184 rfl ew7 ?_
        refine z_iinc (lv' := [(0, .ref (am)), (1, .int (iI (m))), (2, .int (iI (x))), (3, .int (iI (n))), (4, .int (iI (s))), (6, .int (iI (((j : Int)) + 1)))]) C 188 5 [1, 2, 3, 4, 5, 0] dX7_call_185 rfl (by decide) rfl rfl ?_
        refine z_goto C 144 dX7_call_188 (by decide) ?_
        refine z_as (lv' := [(0, .ref (am)), (1, .int (iI (m))), (2, .int (iI (x))), (3, .int (iI (n))), (4, .int (iI (s))), (6, .int (iI (((j + 1) : Int))))]) rfl rfl rfl ?_
        exact ih2 (j + 1) (w7) hB hE0 (by omega) (by rw [← ew7]; simp only [agW]; rw [← ew, e9 33 _ (by decide), e9 32 _ (by decide), e9 19 _ (by decide)]) hw7 (by omega)
  have L130_9 : ∀ (fu : Nat) (e3 : Int) (hB : coB w m x n s = true) (hEE : e3 = caE w m x n) (hme : 0 < fu), Z κ (mP θ am ar w N) 0 0 130 [(0, .ref (am)), (1, .int (iI (m))), (2, .int (iI (x))), (3, .int (iI (n))), (4, .int (iI (s))), (5, .int (iI (e3)))] [] := by
    intro fu
    induction fu with
    | zero => intro e3 hB hEE hme; exact absurd hme (Nat.not_lt_zero _)
    | succ fu ih10 =>
      intro e3 hB hEE hme
      have hB0 := hB; unfold coB at hB0; simp only [Bool.and_eq_true] at hB0; have hb1 := of_decide_eq_true hB0.1.1.1; have hb2 := of_decide_eq_true hB0.1.1.2; have hb3 := of_decide_eq_true hB0.1.2; have hb4 := of_decide_eq_true hB0.2; obtain ⟨ma, mb1, mc, md⟩ := hS.M hb1.1 hb1.2.1
      have her3 := ce3_r (w := w) (m := m) (x := x) (n := n) (k := n.toNat)
      have hec : caE w m x n = ce3 w m x n n.toNat := rfl
      refine z_iload C 132 5 dX7_call_130 rfl rfl ?_
      refine z_if_le C 141 135 dX7_call_132 (by decide) ⟨by omega, by omega⟩ rfl (fun c11 => ?_) (fun c11 => ?_)
      · skip
        refine z_iconst C 142 dX7_call_141 rfl ?_
        refine z_istore (lv' := [(0, .ref (am)), (1, .int (iI (m))), (2, .int (iI (x))), (3, .int (iI (n))), (4, .int (iI (s))), (5, .int (iI (e3))), (6, .int (iI (0)))]) C 144 [1, 2, 3, 4, 5, 6, 0] dX7_call_142 (by decide) rfl rfl ?_
        refine z_sub [0, 1, 2, 3, 4, 6] (lv' := [(0, .ref (am)), (1, .int (iI (m))), (2, .int (iI (x))), (3, .int (iI (n))), (4, .int (iI (s))), (6, .int (iI (0)))]) rfl ?_
        refine z_as (lv' := [(0, .ref (am)), (1, .int (iI (m))), (2, .int (iI (x))), (3, .int (iI (n))), (4, .int (iI (s))), (6, .int (iI (((0) : Int))))]) rfl rfl rfl ?_
        exact L144_1 _ (0) (w) hB (by omega) (by omega) rfl hw (Nat.lt_succ_self _)
      · skip
        refine z_bipush C 137 dX7_call_135 (by decide) rfl ?_
        refine z_iload C 139 5 dX7_call_137 rfl rfl ?_
        refine z_isub C 140 dX7_call_139 rfl ?_
        exact z_iret C dX7_call_140 rfl (Nat.le_of_ble_eq_true rfl) (Nat.le_of_ble_eq_true rfl) ⟨congrArg (fun z => some (Value.int (iI z))) (by unfold coI; rw [if_neg (by simp [hB]), if_pos (by omega), hEE]), (congrArg (fun w' => mP θ am ar w' N) (by unfold coW; rw [if_neg (by intro h; rw [Bool.and_eq_true] at h; have h9 := of_decide_eq_true h.2; omega)]))⟩
  have L86_12 : ∀ (fu : Nat) (k : Nat) (e3 : Int) (hB : coB w m x n s = true) (hk : (k : Int) ≤ n) (he3 : e3 = ce3 w m x n k) (hme : n.toNat - k < fu), Z κ (mP θ am ar w N) 0 0 86 [(0, .ref (am)), (1, .int (iI (m))), (2, .int (iI (x))), (3, .int (iI (n))), (4, .int (iI (s))), (5, .int (iI (e3))), (6, .int (iI ((k : Int))))] [] := by
    intro fu
    induction fu with
    | zero => intro k e3 hB hk he3 hme; exact absurd hme (Nat.not_lt_zero _)
    | succ fu ih13 =>
      intro k e3 hB hk he3 hme
      have hB0 := hB; unfold coB at hB0; simp only [Bool.and_eq_true] at hB0; have hb1 := of_decide_eq_true hB0.1.1.1; have hb2 := of_decide_eq_true hB0.1.1.2; have hb3 := of_decide_eq_true hB0.1.2; have hb4 := of_decide_eq_true hB0.2; obtain ⟨ma, mb1, mc, md⟩ := hS.M hb1.1 hb1.2.1
      have her3 := ce3_r (w := w) (m := m) (x := x) (n := n) (k := k)
      refine z_iload C 88 6 dX7_call_86 rfl rfl ?_
      refine z_iload_n C 89 3 dX7_call_88 rfl rfl ?_
      refine z_icmp_ge C 130 92 dX7_call_89 (by decide) ⟨by omega, by omega⟩ r_n rfl (fun c14 => ?_) (fun c14 => ?_)
      · skip
        refine z_sub [0, 1, 2, 3, 4, 5] (lv' := [(0, .ref (am)), (1, .int (iI (m))), (2, .int (iI (x))), (3, .int (iI (n))), (4, .int (iI (s))), (5, .int (iI (e3)))]) rfl ?_
        refine z_as (lv' := [(0, .ref (am)), (1, .int (iI (m))), (2, .int (iI (x))), (3, .int (iI (n))), (4, .int (iI (s))), (5, .int (iI ((e3))))]) rfl rfl rfl ?_
        exact L130_9 _ (e3) hB (by rw [he3]; exact ce3_late (by omega) (by first | (left; rw [← he3]; omega) | (right; omega))) (Nat.lt_succ_self _)
      · skip
        refine z_iload C 94 5 dX7_call_92 rfl rfl ?_
        refine z_if_ne C 130 97 dX7_call_94 (by decide) ⟨by omega, by omega⟩ rfl (fun c15 => ?_) (fun c15 => ?_)
        · skip
          refine z_sub [0, 1, 2, 3, 4, 5] (lv' := [(0, .ref (am)), (1, .int (iI (m))), (2, .int (iI (x))), (3, .int (iI (n))), (4, .int (iI (s))), (5, .int (iI (e3)))]) rfl ?_
          refine z_as (lv' := [(0, .ref (am)), (1, .int (iI (m))), (2, .int (iI (x))), (3, .int (iI (n))), (4, .int (iI (s))), (5, .int (iI ((e3))))]) rfl rfl rfl ?_
          exact L130_9 _ (e3) hB (by rw [he3]; exact ce3_late (by omega) (by first | (left; rw [← he3]; omega) | (right; omega))) (Nat.lt_succ_self _)
        · skip
          have h18 := (ce3_18 (w := w) (m := m) (x := x) (n := n) (k := k) (by omega)).1; have mdk := md k (by omega) (by omega)
          refine z_aload_n C 98 0 dX7_call_97 rfl rfl ?_
          refine z_iload C 100 6 dX7_call_98 rfl rfl ?_
          refine z_aload_n C 101 0 dX7_call_100 rfl rfl ?_
          refine m_geta C hκ 104 19 (by decide) rfl q2014 rfl dX7_call_101 rfl ?_
          refine z_iconst C 105 dX7_call_104 rfl ?_
          refine z_iload_n C 106 1 dX7_call_105 rfl rfl ?_
          refine z_imul C 107 dX7_call_106 rfl ?_
          refine z_iload C 109 6 dX7_call_107 rfl rfl ?_
          refine z_iadd C 110 dX7_call_109 rfl ?_
          refine m_iald (len := 300) C hκ hD 111 19 (by decide) rfl rfl (by omega) (by omega) dX7_call_110 rfl ?_
          refine z_callVF (n' := 0) (k' := 0) (As := [.int (iI ((k : Int))), .int (iI (w 19 (((3) * (m)) + ((k : Int)))))]) (rest := []) C hκ hκl 114 (k7_slotGoes hD hw ((k : Int)) (w 19 (((3) * (m)) + ((k : Int)))) ⟨by omega, by omega⟩ (hw.r _ _ rfl) hS (by omega) (by omega)) dX7_call_111 q2461 q2463 qs72 q97 q2464 znX7_slotGoes (Nat.le_of_ble_eq_true rfl) (Nat.le_of_ble_eq_true rfl) (Nat.le_of_ble_eq_true rfl) (Nat.le_of_ble_eq_true rfl) mrec rfl rfl (Nat.le_of_ble_eq_true rfl) rfl rfl rfl ?_
          refine z_ifB_eq C 121 117 dX7_call_114 (by decide) rfl (fun c16 => ?_) (fun c16 => ?_)
          · skip
            refine z_iconst C 122 dX7_call_121 rfl ?_
            refine z_istore (lv' := [(0, .ref (am)), (1, .int (iI (m))), (2, .int (iI (x))), (3, .int (iI (n))), (4, .int (iI (s))), (5, .int (iI (2))), (6, .int (iI ((k : Int))))]) C 124 [1, 2, 3, 4, 5, 0, 6] dX7_call_122 (by decide) rfl rfl ?_
            refine z_iinc (lv' := [(0, .ref (am)), (1, .int (iI (m))), (2, .int (iI (x))), (3, .int (iI (n))), (4, .int (iI (s))), (5, .int (iI (2))), (6, .int (iI (((k : Int)) + 1)))]) C 127 6 [1, 2, 3, 4, 5, 6, 0] dX7_call_124 rfl (by decide) rfl rfl ?_
            refine z_goto C 86 dX7_call_127 (by decide) ?_
            refine z_as (lv' := [(0, .ref (am)), (1, .int (iI (m))), (2, .int (iI (x))), (3, .int (iI (n))), (4, .int (iI (s))), (5, .int (iI ((2)))), (6, .int (iI (((k + 1) : Int))))]) rfl rfl rfl ?_
            exact ih13 (k + 1) (2) hB (by omega) (by rw [ce3_step (by omega)]; first | (rw [if_pos (by assumption)]; done) | (rw [if_neg (by simp_all)]; done)) (by omega)
          · skip
            refine z_iconst C 118 dX7_call_117 rfl ?_
            refine z_goto C 122 dX7_call_118 (by decide) ?_
            refine z_istore (lv' := [(0, .ref (am)), (1, .int (iI (m))), (2, .int (iI (x))), (3, .int (iI (n))), (4, .int (iI (s))), (5, .int (iI (0))), (6, .int (iI ((k : Int))))]) C 124 [1, 2, 3, 4, 5, 0, 6] dX7_call_122 (by decide) rfl rfl ?_
            refine z_iinc (lv' := [(0, .ref (am)), (1, .int (iI (m))), (2, .int (iI (x))), (3, .int (iI (n))), (4, .int (iI (s))), (5, .int (iI (0))), (6, .int (iI (((k : Int)) + 1)))]) C 127 6 [1, 2, 3, 4, 5, 6, 0] dX7_call_124 rfl (by decide) rfl rfl ?_
            refine z_goto C 86 dX7_call_127 (by decide) ?_
            refine z_as (lv' := [(0, .ref (am)), (1, .int (iI (m))), (2, .int (iI (x))), (3, .int (iI (n))), (4, .int (iI (s))), (5, .int (iI ((0)))), (6, .int (iI (((k + 1) : Int))))]) rfl rfl rfl ?_
            exact ih13 (k + 1) (0) hB (by omega) (by rw [ce3_step (by omega)]; first | (rw [if_pos (by assumption)]; done) | (rw [if_neg (by simp_all)]; done)) (by omega)
  have L83_17 : ∀ (fu : Nat) (e2 : Int) (hB : coB w m x n s = true) (he2 : e2 = ce2 w m x n) (hme : 0 < fu), Z κ (mP θ am ar w N) 0 0 83 [(0, .ref (am)), (1, .int (iI (m))), (2, .int (iI (x))), (3, .int (iI (n))), (4, .int (iI (s))), (5, .int (iI (e2)))] [] := by
    intro fu
    induction fu with
    | zero => intro e2 hB he2 hme; exact absurd hme (Nat.not_lt_zero _)
    | succ fu ih18 =>
      intro e2 hB he2 hme
      have hB0 := hB; unfold coB at hB0; simp only [Bool.and_eq_true] at hB0; have hb1 := of_decide_eq_true hB0.1.1.1; have hb2 := of_decide_eq_true hB0.1.1.2; have hb3 := of_decide_eq_true hB0.1.2; have hb4 := of_decide_eq_true hB0.2; obtain ⟨ma, mb1, mc, md⟩ := hS.M hb1.1 hb1.2.1
      refine z_iconst C 84 dX7_call_83 rfl ?_
      refine z_istore (lv' := [(0, .ref (am)), (1, .int (iI (m))), (2, .int (iI (x))), (3, .int (iI (n))), (4, .int (iI (s))), (5, .int (iI (e2))), (6, .int (iI (0)))]) C 86 [1, 2, 3, 4, 5, 6, 0] dX7_call_84 (by decide) rfl rfl ?_
      refine z_as (lv' := [(0, .ref (am)), (1, .int (iI (m))), (2, .int (iI (x))), (3, .int (iI (n))), (4, .int (iI (s))), (5, .int (iI ((e2)))), (6, .int (iI (((0) : Int))))]) rfl rfl rfl ?_
      exact L86_12 _ (0) (e2) hB (by omega) (by rw [he2]; unfold ce3; rw [if_neg (by intro h; cases h.2)]) (Nat.lt_succ_self _)
  have L60_19 : ∀ (fu : Nat) (e : Int) (hB : coB w m x n s = true) (he1 : e = ce1 w m x) (hme : 0 < fu), Z κ (mP θ am ar w N) 0 0 60 [(0, .ref (am)), (1, .int (iI (m))), (2, .int (iI (x))), (3, .int (iI (n))), (4, .int (iI (s))), (5, .int (iI (e)))] [] := by
    intro fu
    induction fu with
    | zero => intro e hB he1 hme; exact absurd hme (Nat.not_lt_zero _)
    | succ fu ih20 =>
      intro e hB he1 hme
      have hB0 := hB; unfold coB at hB0; simp only [Bool.and_eq_true] at hB0; have hb1 := of_decide_eq_true hB0.1.1.1; have hb2 := of_decide_eq_true hB0.1.1.2; have hb3 := of_decide_eq_true hB0.1.2; have hb4 := of_decide_eq_true hB0.2; obtain ⟨ma, mb1, mc, md⟩ := hS.M hb1.1 hb1.2.1
      have her := ce1_r (w := w) (m := m) (x := x)
      refine z_iload C 62 5 dX7_call_60 rfl rfl ?_
      refine z_if_ne C 79 65 dX7_call_62 (by decide) ⟨by omega, by omega⟩ rfl (fun c21 => ?_) (fun c21 => ?_)
      · skip
        refine z_iload C 81 5 dX7_call_79 rfl rfl ?_
        refine z_istore (lv' := [(0, .ref (am)), (1, .int (iI (m))), (2, .int (iI (x))), (3, .int (iI (n))), (4, .int (iI (s))), (5, .int (iI (e)))]) C 83 [1, 2, 3, 4, 5, 0] dX7_call_81 (by decide) rfl rfl ?_
        refine z_as (lv' := [(0, .ref (am)), (1, .int (iI (m))), (2, .int (iI (x))), (3, .int (iI (n))), (4, .int (iI (s))), (5, .int (iI ((e))))]) rfl rfl rfl ?_
        exact L83_17 _ (e) hB (by unfold ce2; rw [← he1]; first | (rw [if_neg (by omega)]; done) | (rw [if_pos (by omega), if_pos (by omega)]; omega) | (rw [if_pos (by omega), if_neg (by omega)]; done)) (Nat.lt_succ_self _)
      · skip
        refine z_iload_n C 66 3 dX7_call_65 rfl rfl ?_
        refine z_aload_n C 67 0 dX7_call_66 rfl rfl ?_
        refine m_geta C hκ 70 18 (by decide) rfl q2013 rfl dX7_call_67 rfl ?_
        refine z_iload_n C 71 1 dX7_call_70 rfl rfl ?_
        refine m_iald (len := 100) C hκ hD 72 18 (by decide) rfl rfl (by omega) (by omega) dX7_call_71 rfl ?_
        refine z_icmp_eq C 79 75 dX7_call_72 (by decide) r_n (hw.r _ _ rfl) rfl (fun c22 => ?_) (fun c22 => ?_)
        · skip
          refine z_iload C 81 5 dX7_call_79 rfl rfl ?_
          refine z_istore (lv' := [(0, .ref (am)), (1, .int (iI (m))), (2, .int (iI (x))), (3, .int (iI (n))), (4, .int (iI (s))), (5, .int (iI (e)))]) C 83 [1, 2, 3, 4, 5, 0] dX7_call_81 (by decide) rfl rfl ?_
          refine z_as (lv' := [(0, .ref (am)), (1, .int (iI (m))), (2, .int (iI (x))), (3, .int (iI (n))), (4, .int (iI (s))), (5, .int (iI ((e))))]) rfl rfl rfl ?_
          exact L83_17 _ (e) hB (by unfold ce2; rw [← he1]; first | (rw [if_neg (by omega)]; done) | (rw [if_pos (by omega), if_pos (by omega)]; omega) | (rw [if_pos (by omega), if_neg (by omega)]; done)) (Nat.lt_succ_self _)
        · skip
          refine z_iconst C 76 dX7_call_75 rfl ?_
          refine z_goto C 81 dX7_call_76 (by decide) ?_
          refine z_istore (lv' := [(0, .ref (am)), (1, .int (iI (m))), (2, .int (iI (x))), (3, .int (iI (n))), (4, .int (iI (s))), (5, .int (iI (2)))]) C 83 [1, 2, 3, 4, 5, 0] dX7_call_81 (by decide) rfl rfl ?_
          refine z_as (lv' := [(0, .ref (am)), (1, .int (iI (m))), (2, .int (iI (x))), (3, .int (iI (n))), (4, .int (iI (s))), (5, .int (iI ((2))))]) rfl rfl rfl ?_
          exact L83_17 _ (2) hB (by unfold ce2; rw [← he1]; first | (rw [if_neg (by omega)]; done) | (rw [if_pos (by omega), if_pos (by omega)]; omega) | (rw [if_pos (by omega), if_neg (by omega)]; done)) (Nat.lt_succ_self _)
  have L38_23 : ∀ (fu : Nat)  (hB : coB w m x n s = true) (hme : 0 < fu), Z κ (mP θ am ar w N) 0 0 38 [(0, .ref (am)), (1, .int (iI (m))), (2, .int (iI (x))), (3, .int (iI (n))), (4, .int (iI (s)))] [] := by
    intro fu
    induction fu with
    | zero => intro hB hme; exact absurd hme (Nat.not_lt_zero _)
    | succ fu ih24 =>
      intro hB hme
      have hB0 := hB; unfold coB at hB0; simp only [Bool.and_eq_true] at hB0; have hb1 := of_decide_eq_true hB0.1.1.1; have hb2 := of_decide_eq_true hB0.1.1.2; have hb3 := of_decide_eq_true hB0.1.2; have hb4 := of_decide_eq_true hB0.2; obtain ⟨ma, mb1, mc, md⟩ := hS.M hb1.1 hb1.2.1
      refine z_aload_n C 39 0 dX7_call_38 rfl rfl ?_
      refine z_iload_n C 40 1 dX7_call_39 rfl rfl ?_
      refine z_iload_n C 41 2 dX7_call_40 rfl rfl ?_
      refine z_callVF (n' := 0) (k' := 0) (As := [.int (iI (m)), .int (iI (x))]) (rest := []) C hκ hκl 44 (k7_mayCaller hD hw (m) (x) r_m r_x hS (by omega) (by omega)) dX7_call_41 q2353 q2355 qs65 q97 q2356 znX7_mayCaller (Nat.le_of_ble_eq_true rfl) (Nat.le_of_ble_eq_true rfl) (Nat.le_of_ble_eq_true rfl) (Nat.le_of_ble_eq_true rfl) mrec rfl rfl (Nat.le_of_ble_eq_true rfl) rfl rfl rfl ?_
      refine z_ifB_ne C 52 47 dX7_call_44 (by decide) rfl (fun c25 => ?_) (fun c25 => ?_)
      · skip
        refine z_aload_n C 53 0 dX7_call_52 rfl rfl ?_
        refine z_iload_n C 54 1 dX7_call_53 rfl rfl ?_
        refine z_iload_n C 55 2 dX7_call_54 rfl rfl ?_
        refine z_callVF (n' := 0) (k' := 0) (As := [.int (iI (m)), .int (iI (x))]) (rest := []) C hκ hκl 58 (k7_against hD hw (m) (x) r_m r_x hS (by omega) (by omega)) dX7_call_55 q2417 q2419 qs70 q97 q2420 znX7_against (Nat.le_of_ble_eq_true rfl) (Nat.le_of_ble_eq_true rfl) (Nat.le_of_ble_eq_true rfl) (Nat.le_of_ble_eq_true rfl) mrec rfl rfl (Nat.le_of_ble_eq_true rfl) rfl rfl rfl ?_
        have h26 := agI_r (w := w) (m := m) (x := x)
        refine z_istore (lv' := [(0, .ref (am)), (1, .int (iI (m))), (2, .int (iI (x))), (3, .int (iI (n))), (4, .int (iI (s))), (5, .int (iI (agI w (m) (x))))]) C 60 [1, 2, 3, 4, 5, 0] dX7_call_58 (by decide) rfl rfl ?_
        refine z_as (lv' := [(0, .ref (am)), (1, .int (iI (m))), (2, .int (iI (x))), (3, .int (iI (n))), (4, .int (iI (s))), (5, .int (iI ((agI w (m) (x)))))]) rfl rfl rfl ?_
        exact L60_19 _ (agI w (m) (x)) hB (by unfold ce1; first | (rw [if_pos (by simp_all)]; done) | (rw [if_neg (by simp_all)]; done)) (Nat.lt_succ_self _)
      · skip
        refine z_bipush C 49 dX7_call_47 (by decide) rfl ?_
        refine z_goto C 58 dX7_call_49 (by decide) ?_
        refine z_istore (lv' := [(0, .ref (am)), (1, .int (iI (m))), (2, .int (iI (x))), (3, .int (iI (n))), (4, .int (iI (s))), (5, .int (iI (6)))]) C 60 [1, 2, 3, 4, 5, 0] dX7_call_58 (by decide) rfl rfl ?_
        refine z_as (lv' := [(0, .ref (am)), (1, .int (iI (m))), (2, .int (iI (x))), (3, .int (iI (n))), (4, .int (iI (s))), (5, .int (iI ((6))))]) rfl rfl rfl ?_
        exact L60_19 _ (6) hB (by unfold ce1; first | (rw [if_pos (by simp_all)]; done) | (rw [if_neg (by simp_all)]; done)) (Nat.lt_succ_self _)
  refine z_aload_n C 1 0 dX7_call_0 rfl rfl ?_
  refine z_iload_n C 2 1 dX7_call_1 rfl rfl ?_
  refine z_callVF (n' := 0) (k' := 0) (As := [.int (iI (m))]) (rest := []) C hκ hκl 5 (k7_isMethod hD hw (m) r_m hB) dX7_call_2 q2304 q2306 qs59 q97 q2307 znX7_isMethod (Nat.le_of_ble_eq_true rfl) (Nat.le_of_ble_eq_true rfl) (Nat.le_of_ble_eq_true rfl) (Nat.le_of_ble_eq_true rfl) mrec rfl rfl (Nat.le_of_ble_eq_true rfl) rfl rfl rfl ?_
  refine z_ifB_eq C 36 8 dX7_call_5 (by decide) rfl (fun c27 => ?_) (fun c27 => ?_)
  · skip
    have c27b : ¬ (0 ≤ (m) ∧ (m) < w 11 0 ∧ w 16 (m) ≠ 1) := of_decide_eq_false c27
    refine z_iconst C 37 dX7_call_36 rfl ?_
    exact z_iret C dX7_call_37 rfl (Nat.le_of_ble_eq_true rfl) (Nat.le_of_ble_eq_true rfl) ⟨congrArg (fun z => some (Value.int (iI z))) (by clear C hκ hκl hS hB hB1 hB2 hB3 hB4 hB5 hB6 hC hD hw L144_1 L130_9 L86_12 L83_17 L60_19 L38_23; unfold coI; rw [if_pos]; unfold coB; first | (simp_all; done) | grind), (congrArg (fun w' => mP θ am ar w' N) (by clear C hκ hκl; unfold coW; rw [if_neg]; unfold coB; first | (simp_all; done) | grind))⟩
  · skip
    have c27b : (0 ≤ (m) ∧ (m) < w 11 0 ∧ w 16 (m) ≠ 1) := of_decide_eq_true c27
    refine z_aload_n C 9 0 dX7_call_8 rfl rfl ?_
    refine z_iload_n C 10 2 dX7_call_9 rfl rfl ?_
    refine z_callVF (n' := 0) (k' := 0) (As := [.int (iI (x))]) (rest := []) C hκ hκl 13 (k7_isThingOrNone hD hw (x) r_x hB) dX7_call_10 q2345 q2347 qs63 q97 q2348 znX7_isThingOrNone (Nat.le_of_ble_eq_true rfl) (Nat.le_of_ble_eq_true rfl) (Nat.le_of_ble_eq_true rfl) (Nat.le_of_ble_eq_true rfl) mrec rfl rfl (Nat.le_of_ble_eq_true rfl) rfl rfl rfl ?_
    refine z_ifB_eq C 36 16 dX7_call_13 (by decide) rfl (fun c28 => ?_) (fun c28 => ?_)
    · skip
      have c28b : ¬ ((x) = -1 ∨ (0 ≤ (x) ∧ (x) < w 27 0)) := of_decide_eq_false c28
      refine z_iconst C 37 dX7_call_36 rfl ?_
      exact z_iret C dX7_call_37 rfl (Nat.le_of_ble_eq_true rfl) (Nat.le_of_ble_eq_true rfl) ⟨congrArg (fun z => some (Value.int (iI z))) (by clear C hκ hκl hS hB hB1 hB2 hB3 hB4 hB5 hB6 hC hD hw L144_1 L130_9 L86_12 L83_17 L60_19 L38_23; unfold coI; rw [if_pos]; unfold coB; first | (simp_all; done) | grind), (congrArg (fun w' => mP θ am ar w' N) (by clear C hκ hκl; unfold coW; rw [if_neg]; unfold coB; first | (simp_all; done) | grind))⟩
    · skip
      have c28b : ((x) = -1 ∨ (0 ≤ (x) ∧ (x) < w 27 0)) := of_decide_eq_true c28
      refine z_iload_n C 17 3 dX7_call_16 rfl rfl ?_
      refine z_i2l C 18 dX7_call_17 r_n rfl ?_
      refine z_lconst (x := 0) C 19 dX7_call_18 rfl rfl ?_
      refine z_ldc2 (z := 3) C 22 dX7_call_19 q2167 (by decide) rfl ?_
      refine z_callSF (n' := 0) (k' := 0) (As := [.long (lI (n)), .long (lI (0)), .long (lI (3))]) (rest := []) C hκ hκl 25 (k7_in (n) (0) (3) (inR_L r_n) ⟨by decide, by decide⟩ ⟨by decide, by decide⟩) dX7_call_22 q2164 q2165 q97 q2166 znX7_in (Nat.le_of_ble_eq_true rfl) (Nat.le_of_ble_eq_true rfl) (Nat.le_of_ble_eq_true rfl) (Nat.le_of_ble_eq_true rfl) rfl (Nat.le_of_ble_eq_true rfl) rfl rfl rfl ?_
      refine z_ifB_eq C 36 28 dX7_call_25 (by decide) rfl (fun c29 => ?_) (fun c29 => ?_)
      · skip
        have c29b : ¬ (((0) ≤ (n) ∧ (n) ≤ (3))) := of_decide_eq_false c29
        refine z_iconst C 37 dX7_call_36 rfl ?_
        exact z_iret C dX7_call_37 rfl (Nat.le_of_ble_eq_true rfl) (Nat.le_of_ble_eq_true rfl) ⟨congrArg (fun z => some (Value.int (iI z))) (by clear C hκ hκl hS hB hB1 hB2 hB3 hB4 hB5 hB6 hC hD hw L144_1 L130_9 L86_12 L83_17 L60_19 L38_23; unfold coI; rw [if_pos]; unfold coB; first | (simp_all; done) | grind), (congrArg (fun w' => mP θ am ar w' N) (by clear C hκ hκl; unfold coW; rw [if_neg]; unfold coB; first | (simp_all; done) | grind))⟩
      · skip
        have c29b : (((0) ≤ (n) ∧ (n) ≤ (3))) := of_decide_eq_true c29
        refine z_iload C 30 4 dX7_call_28 rfl rfl ?_
        refine z_callSF (n' := 0) (k' := 0) (As := [.int (iI (s))]) (rest := []) C hκ hκl 33 (k7_isSlot (s) r_s) dX7_call_30 q2377 q2378 q97 q2379 znX7_isSlot (Nat.le_of_ble_eq_true rfl) (Nat.le_of_ble_eq_true rfl) (Nat.le_of_ble_eq_true rfl) (Nat.le_of_ble_eq_true rfl) rfl (Nat.le_of_ble_eq_true rfl) rfl rfl rfl ?_
        refine z_ifB_ne C 38 36 dX7_call_33 (by decide) rfl (fun c30 => ?_) (fun c30 => ?_)
        · skip
          have c30b : (0 ≤ (s) ∧ (s) < 8) := of_decide_eq_true c30
          refine z_as (lv' := [(0, .ref (am)), (1, .int (iI (m))), (2, .int (iI (x))), (3, .int (iI (n))), (4, .int (iI (s)))]) rfl rfl rfl ?_
          exact L38_23 _  (by clear C hκ hκl; unfold coB; first | (simp_all; done) | grind) (Nat.lt_succ_self _)
        · skip
          have c30b : ¬ (0 ≤ (s) ∧ (s) < 8) := of_decide_eq_false c30
          refine z_iconst C 37 dX7_call_36 rfl ?_
          exact z_iret C dX7_call_37 rfl (Nat.le_of_ble_eq_true rfl) (Nat.le_of_ble_eq_true rfl) ⟨congrArg (fun z => some (Value.int (iI z))) (by clear C hκ hκl hS hB hB1 hB2 hB3 hB4 hB5 hB6 hC hD hw L144_1 L130_9 L86_12 L83_17 L60_19 L38_23; unfold coI; rw [if_pos]; unfold coB; first | (simp_all; done) | grind), (congrArg (fun w' => mP θ am ar w' N) (by clear C hκ hκl; unfold coW; rw [if_neg]; unfold coB; first | (simp_all; done) | grind))⟩
