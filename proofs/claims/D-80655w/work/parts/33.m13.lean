/-! ===== the Model: the method in force ===== -/
def isK (w : mW) (m k : Int) : Bool := decide (k = m) || ovB w k m || (decide (w 1 (w 13 m) = 3) && decide (whoI w k = 1) && !hasB w k 4)
def fsF (w : mW) (m : Int) : Nat → Int → Int
  | 0, _ => -1
  | n + 1, t => if t = -1 then -1 else if olI w t m ≠ -1 ∧ isK w m (olI w t m) = true then (if hasB w (olI w t m) 16 then -1 else olI w t m) else fsF w m n (w 2 t)
theorem fsF_e {w : mW} {m : Int} {n : Nat} : fsF w m n (-1) = -1 := by cases n <;> simp [fsF]
theorem fsF_y {w : mW} {m t : Int} {n : Nat} (h0 : t ≠ -1) (h1 : olI w t m ≠ -1) (h2 : isK w m (olI w t m) = true) (hn : 1 ≤ n) : fsF w m n t = if hasB w (olI w t m) 16 then -1 else olI w t m := by
  obtain ⟨k, rfl⟩ : ∃ k, n = k + 1 := ⟨n - 1, by omega⟩
  simp only [fsF]; rw [if_neg h0, if_pos ⟨h1, h2⟩]
theorem fsF_n {w : mW} {m t : Int} {n : Nat} (h0 : t ≠ -1) (h1 : olI w t m = -1 ∨ isK w m (olI w t m) = false) (hn : 1 ≤ n) : fsF w m n t = fsF w m (n - 1) (w 2 t) := by
  obtain ⟨k, rfl⟩ : ∃ k, n = k + 1 := ⟨n - 1, by omega⟩
  simp only [fsF]; rw [if_neg h0, if_neg]
  · rfl
  · rintro ⟨a, b⟩
    rcases h1 with h1 | h1
    · exact a h1
    · rw [h1] at b; cases b
def fdP (w : mW) (m t : Int) : Bool := decide (w 1 t = 3) && decide (olI w t m ≠ -1) && (decide (olI w t m = m) || ovB w (olI w t m) m) && !hasB w (olI w t m) 16
def fdK (w : mW) (t m : Int) : Nat := firstN (fun i => fdP w m (w 9 (60 * t + i))) (w 10 t).toNat
def foI (w : mW) (t m : Int) : Int := if fsF w m 61 t ≠ -1 then fsF w m 61 t else if fdK w t m < (w 10 t).toNat then olI w (w 9 (60 * t + fdK w t m)) m else -1
theorem fsF_r {w : mW} {m : Int} (h : 0 ≤ w 11 0) : ∀ (n : Nat) (t : Int), -1 ≤ fsF w m n t ∧ fsF w m n t < w 11 0
  | 0, t => by simp [fsF]; omega
  | n + 1, t => by
    have h1 := olI_r (w := w) (t := t) (m := m) h
    have h2 := fsF_r (m := m) h n (w 2 t)
    simp only [fsF]
    split
    · omega
    · split
      · split <;> omega
      · exact h2
theorem foI_r {w : mW} {t m : Int} (h : 0 ≤ w 11 0) : -1 ≤ foI w t m ∧ foI w t m < w 11 0 := by
  unfold foI
  split
  · exact fsF_r h _ _
  · split
    · exact olI_r h
    · omega
def ifI (w : mW) (t m : Int) : Int := if !clB w t || !mtB w m || hasB w m 4 || prB w m || !isa w t (w 13 m) then -2 else foI w t m

set_option maxRecDepth 100000 in
theorem k7_force {l : Launch} {θ : zTh} {N : zMap} {am : Nat} {ar : Nat → Nat} {w : mW} (hD : mDis am ar) (hw : mWF w) (t : Int) (m : Int) (r_t : inR t) (r_m : inR m) (hS : mS w) (ht : 0 ≤ t ∧ t < w 0 0) (hm : 0 ≤ m ∧ m < w 11 0) : ZF θ l yX7_force cX7_force 7 (some .int) ⟨3, 0, 0, 66⟩ [.ref (am), .int (iI (t)), .int (iI (m))] (mP θ am ar w N) (some (.int (iI (foI w t m)))) (mP θ am ar w N) := by
  refine z_start (own := RX7) (nm := "force") pnX7 rfl rfl (Nat.le_of_ble_eq_true rfl) ?_
  intro κ hκ hκl C
  change Z κ (mP θ am ar w N) 0 0 0 [(0, .ref (am)), (1, .int (iI (t))), (2, .int (iI (m)))] []
  have hB := hS.B
  obtain ⟨hB1, hB2, hB3, hB4, hB5, hB6⟩ := hS.B
  have hC := hS.C
  obtain ⟨t1, t2, t3, t4, t5, t6, t7, t8⟩ := hS.T ht.1 ht.2
  have hmm := (hS.M hm.1 hm.2).1
  have L134_1 : ∀ (fu : Nat)  (hR : fsF w m 61 t = -1) (hme : 0 < fu), Z κ (mP θ am ar w N) 0 0 134 [(0, .ref (am)), (1, .int (iI (t))), (2, .int (iI (m))), (3, .int (iI (bI (decide (w 1 (w 13 m) = 3)))))] [] := by
    intro fu
    induction fu with
    | zero => intro hR hme; exact absurd hme (Nat.not_lt_zero _)
    | succ fu ih2 =>
      intro hR hme
      refine z_iconst C 135 dX7_force_134 rfl ?_
      refine z_istore (lv' := [(0, .ref (am)), (1, .int (iI (t))), (2, .int (iI (m))), (3, .int (iI (bI (decide (w 1 (w 13 m) = 3))))), (4, .int (iI (0)))]) C 137 [1, 2, 3, 4, 0] dX7_force_135 (by decide) rfl rfl ?_
      have L137_3 : ∀ (fu : Nat) (i : Nat) (hi : (i : Int) ≤ w 10 t) (hp : ∀ j : Nat, j < i → fdP w m (w 9 (60 * t + j)) = false) (hme : (w 10 t).toNat - i < fu), Z κ (mP θ am ar w N) 0 0 137 [(0, .ref (am)), (1, .int (iI (t))), (2, .int (iI (m))), (3, .int (iI (bI (decide (w 1 (w 13 m) = 3))))), (4, .int (iI ((i : Int))))] [] := by
        intro fu
        induction fu with
        | zero => intro i hi hp hme; exact absurd hme (Nat.not_lt_zero _)
        | succ fu ih4 =>
          intro i hi hp hme
          refine z_iload C 139 4 dX7_force_137 rfl rfl ?_
          refine z_aload_n C 140 0 dX7_force_139 rfl rfl ?_
          refine m_geta C hκ 143 10 (by decide) rfl q2005 rfl dX7_force_140 rfl ?_
          refine z_iload_n C 144 1 dX7_force_143 rfl rfl ?_
          obtain ⟨f5a, f5b, f5c, f5d, f5e, f5f, f5g, f5h⟩ := hS.T (show 0 ≤ t by omega) (by omega)
          refine m_iald (len := 60) C hκ hD 145 10 (by decide) rfl rfl (by omega) (by omega) dX7_force_144 rfl ?_
          refine z_icmp_ge C 228 148 dX7_force_145 (by decide) ⟨by omega, by omega⟩ (hw.r _ _ rfl) rfl (fun c6 => ?_) (fun c6 => ?_)
          · skip
            refine z_iconst C 229 dX7_force_228 rfl ?_
            exact z_iret C dX7_force_229 rfl (Nat.le_of_ble_eq_true rfl) (Nat.le_of_ble_eq_true rfl) ⟨congrArg (fun z => some (Value.int (iI z))) (by have hK : fdK w t m = (w 10 t).toNat := (by unfold fdK; exact firstN_none (fun j h => hp j (by omega))); unfold foI; rw [if_neg (by omega), hK, if_neg (by omega)]), rfl⟩
          · skip
            have t6i := t6 i (by omega) (by omega)
            refine z_aload_n C 149 0 dX7_force_148 rfl rfl ?_
            refine m_geta C hκ 152 9 (by decide) rfl q2004 rfl dX7_force_149 rfl ?_
            refine z_bipush C 154 dX7_force_152 (by decide) rfl ?_
            refine z_iload_n C 155 1 dX7_force_154 rfl rfl ?_
            refine z_imul C 156 dX7_force_155 rfl ?_
            refine z_iload C 158 4 dX7_force_156 rfl rfl ?_
            refine z_iadd C 159 dX7_force_158 rfl ?_
            refine m_iald (len := 3600) C hκ hD 160 9 (by decide) rfl rfl (by omega) (by omega) dX7_force_159 rfl ?_
            refine z_istore (lv' := [(0, .ref (am)), (1, .int (iI (t))), (2, .int (iI (m))), (3, .int (iI (bI (decide (w 1 (w 13 m) = 3))))), (4, .int (iI ((i : Int)))), (5, .int (iI (w 9 (((60) * (t)) + ((i : Int))))))]) C 162 [1, 2, 3, 4, 5, 0] dX7_force_160 (by decide) rfl rfl ?_
            refine z_aload_n C 163 0 dX7_force_162 rfl rfl ?_
            refine m_geta C hκ 166 1 (by decide) rfl q1996 rfl dX7_force_163 rfl ?_
            refine z_iload C 168 5 dX7_force_166 rfl rfl ?_
            obtain ⟨f7a, f7b, f7c, f7d, f7e, f7f, f7g, f7h⟩ := hS.T (show 0 ≤ w 9 (((60) * (t)) + ((i : Int))) by omega) (by omega)
            refine m_iald (len := 60) C hκ hD 169 1 (by decide) rfl rfl (by omega) (by omega) dX7_force_168 rfl ?_
            refine z_iconst C 170 dX7_force_169 rfl ?_
            refine z_icmp_ne C 183 173 dX7_force_170 (by decide) (hw.r _ _ rfl) ⟨by decide, by decide⟩ rfl (fun c8 => ?_) (fun c8 => ?_)
            · skip
              refine z_iconst C 184 dX7_force_183 rfl ?_
              refine z_istore (lv' := [(0, .ref (am)), (1, .int (iI (t))), (2, .int (iI (m))), (3, .int (iI (bI (decide (w 1 (w 13 m) = 3))))), (4, .int (iI ((i : Int)))), (5, .int (iI (w 9 (((60) * (t)) + ((i : Int)))))), (6, .int (iI (-1)))]) C 186 [1, 2, 3, 4, 5, 6, 0] dX7_force_184 (by decide) rfl rfl ?_
              refine z_iload C 188 6 dX7_force_186 rfl rfl ?_
              refine z_iconst C 189 dX7_force_188 rfl ?_
              refine z_icmp_eq C 222 192 dX7_force_189 (by decide) ⟨by decide, by decide⟩ ⟨by decide, by decide⟩ rfl (fun c9 => ?_) (fun c9 => absurd c9 (by decide))
              refine z_iinc (lv' := [(0, .ref (am)), (1, .int (iI (t))), (2, .int (iI (m))), (3, .int (iI (bI (decide (w 1 (w 13 m) = 3))))), (4, .int (iI (((i : Int)) + 1))), (5, .int (iI (w 9 (((60) * (t)) + ((i : Int)))))), (6, .int (iI (-1)))]) C 225 4 [1, 2, 3, 4, 0, 5, 6] dX7_force_222 rfl (by decide) rfl rfl ?_
              refine z_goto C 137 dX7_force_225 (by decide) ?_
              have hpi : fdP w m (w 9 (60 * t + i)) = false := by clear C hκ hκl; unfold fdP; first | (simp_all; done) | grind
              refine z_sub [0, 1, 2, 3, 4] (lv' := [(0, .ref (am)), (1, .int (iI (t))), (2, .int (iI (m))), (3, .int (iI (bI (decide (w 1 (w 13 m) = 3))))), (4, .int (iI (((i : Int)) + 1)))]) rfl ?_
              refine z_as (lv' := [(0, .ref (am)), (1, .int (iI (t))), (2, .int (iI (m))), (3, .int (iI (bI (decide (w 1 (w 13 m) = 3))))), (4, .int (iI (((i + 1) : Int))))]) rfl rfl rfl ?_
              exact ih4 (i + 1) (by omega) (fun j hj => (Nat.lt_or_eq_of_le (Nat.le_of_lt_succ hj)).elim (hp j) (fun h => by rw [h]; exact hpi)) (by omega)
            · skip
              refine z_aload_n C 174 0 dX7_force_173 rfl rfl ?_
              refine z_iload C 176 5 dX7_force_174 rfl rfl ?_
              refine z_iload_n C 177 2 dX7_force_176 rfl rfl ?_
              refine z_callVF (n' := 0) (k' := 0) (As := [.int (iI (w 9 (((60) * (t)) + ((i : Int))))), .int (iI (m))]) (rest := []) C hκ hκl 180 (k7_ownLike hD hw (w 9 (((60) * (t)) + ((i : Int)))) (m) (hw.r _ _ rfl) r_m hS (by omega)) dX7_force_177 q2312 q2314 qs61 q97 q2315 znX7_ownLike (Nat.le_of_ble_eq_true rfl) (Nat.le_of_ble_eq_true rfl) (Nat.le_of_ble_eq_true rfl) (Nat.le_of_ble_eq_true rfl) mrec rfl rfl (Nat.le_of_ble_eq_true rfl) rfl rfl rfl ?_
              have h10 := olI_r (w := w) (t := w 9 (((60) * (t)) + ((i : Int)))) (m := m) (by omega)
              refine z_goto C 184 dX7_force_180 (by decide) ?_
              refine z_istore (lv' := [(0, .ref (am)), (1, .int (iI (t))), (2, .int (iI (m))), (3, .int (iI (bI (decide (w 1 (w 13 m) = 3))))), (4, .int (iI ((i : Int)))), (5, .int (iI (w 9 (((60) * (t)) + ((i : Int)))))), (6, .int (iI (olI w (w 9 (((60) * (t)) + ((i : Int)))) (m))))]) C 186 [1, 2, 3, 4, 5, 6, 0] dX7_force_184 (by decide) rfl rfl ?_
              refine z_iload C 188 6 dX7_force_186 rfl rfl ?_
              refine z_iconst C 189 dX7_force_188 rfl ?_
              refine z_icmp_eq C 222 192 dX7_force_189 (by decide) ⟨by omega, by omega⟩ ⟨by decide, by decide⟩ rfl (fun c11 => ?_) (fun c11 => ?_)
              · skip
                refine z_iinc (lv' := [(0, .ref (am)), (1, .int (iI (t))), (2, .int (iI (m))), (3, .int (iI (bI (decide (w 1 (w 13 m) = 3))))), (4, .int (iI (((i : Int)) + 1))), (5, .int (iI (w 9 (((60) * (t)) + ((i : Int)))))), (6, .int (iI (olI w (w 9 (((60) * (t)) + ((i : Int)))) (m))))]) C 225 4 [1, 2, 3, 4, 0, 5, 6] dX7_force_222 rfl (by decide) rfl rfl ?_
                refine z_goto C 137 dX7_force_225 (by decide) ?_
                have hpi : fdP w m (w 9 (60 * t + i)) = false := by clear C hκ hκl; unfold fdP; first | (simp_all; done) | grind
                refine z_sub [0, 1, 2, 3, 4] (lv' := [(0, .ref (am)), (1, .int (iI (t))), (2, .int (iI (m))), (3, .int (iI (bI (decide (w 1 (w 13 m) = 3))))), (4, .int (iI (((i : Int)) + 1)))]) rfl ?_
                refine z_as (lv' := [(0, .ref (am)), (1, .int (iI (t))), (2, .int (iI (m))), (3, .int (iI (bI (decide (w 1 (w 13 m) = 3))))), (4, .int (iI (((i + 1) : Int))))]) rfl rfl rfl ?_
                exact ih4 (i + 1) (by omega) (fun j hj => (Nat.lt_or_eq_of_le (Nat.le_of_lt_succ hj)).elim (hp j) (fun h => by rw [h]; exact hpi)) (by omega)
              · skip
                refine z_iload C 194 6 dX7_force_192 rfl rfl ?_
                refine z_iload_n C 195 2 dX7_force_194 rfl rfl ?_
                refine z_icmp_eq C 208 198 dX7_force_195 (by decide) ⟨by omega, by omega⟩ r_m rfl (fun c12 => ?_) (fun c12 => ?_)
                · skip
                  refine z_aload_n C 209 0 dX7_force_208 rfl rfl ?_
                  refine z_iload C 211 6 dX7_force_209 rfl rfl ?_
                  refine z_bipush C 213 dX7_force_211 (by decide) rfl ?_
                  refine z_callVF (n' := 0) (k' := 0) (As := [.int (iI (olI w (w 9 (((60) * (t)) + ((i : Int)))) (m))), .int (iI (16))]) (rest := []) C hκ hκl 216 (k7_has hD hw (olI w (w 9 (((60) * (t)) + ((i : Int)))) (m)) (16) ⟨by omega, by omega⟩ ⟨by decide, by decide⟩ (by omega)) dX7_force_213 q2271 q2273 qs53 q97 q2274 znX7_has (Nat.le_of_ble_eq_true rfl) (Nat.le_of_ble_eq_true rfl) (Nat.le_of_ble_eq_true rfl) (Nat.le_of_ble_eq_true rfl) mrec rfl rfl (Nat.le_of_ble_eq_true rfl) rfl rfl rfl ?_
                  refine z_ifB_ne C 222 219 dX7_force_216 (by decide) rfl (fun c13 => ?_) (fun c13 => ?_)
                  · skip
                    refine z_iinc (lv' := [(0, .ref (am)), (1, .int (iI (t))), (2, .int (iI (m))), (3, .int (iI (bI (decide (w 1 (w 13 m) = 3))))), (4, .int (iI (((i : Int)) + 1))), (5, .int (iI (w 9 (((60) * (t)) + ((i : Int)))))), (6, .int (iI (olI w (w 9 (((60) * (t)) + ((i : Int)))) (m))))]) C 225 4 [1, 2, 3, 4, 0, 5, 6] dX7_force_222 rfl (by decide) rfl rfl ?_
                    refine z_goto C 137 dX7_force_225 (by decide) ?_
                    have hpi : fdP w m (w 9 (60 * t + i)) = false := by clear C hκ hκl; unfold fdP; first | (simp_all; done) | grind
                    refine z_sub [0, 1, 2, 3, 4] (lv' := [(0, .ref (am)), (1, .int (iI (t))), (2, .int (iI (m))), (3, .int (iI (bI (decide (w 1 (w 13 m) = 3))))), (4, .int (iI (((i : Int)) + 1)))]) rfl ?_
                    refine z_as (lv' := [(0, .ref (am)), (1, .int (iI (t))), (2, .int (iI (m))), (3, .int (iI (bI (decide (w 1 (w 13 m) = 3))))), (4, .int (iI (((i + 1) : Int))))]) rfl rfl rfl ?_
                    exact ih4 (i + 1) (by omega) (fun j hj => (Nat.lt_or_eq_of_le (Nat.le_of_lt_succ hj)).elim (hp j) (fun h => by rw [h]; exact hpi)) (by omega)
                  · skip
                    refine z_iload C 221 6 dX7_force_219 rfl rfl ?_
                    exact z_iret C dX7_force_221 rfl (Nat.le_of_ble_eq_true rfl) (Nat.le_of_ble_eq_true rfl) ⟨congrArg (fun z => some (Value.int (iI z))) (by have hpi : fdP w m (w 9 (60 * t + i)) = true := (by clear C hκ hκl; unfold fdP; first | (simp_all; done) | grind); have hK : fdK w t m = i := (by unfold fdK; exact firstN_at (by omega) hpi hp); unfold foI; rw [if_neg (by omega), hK, if_pos (by omega)]), rfl⟩
                · skip
                  refine z_aload_n C 199 0 dX7_force_198 rfl rfl ?_
                  refine z_iload C 201 6 dX7_force_199 rfl rfl ?_
                  refine z_iload_n C 202 2 dX7_force_201 rfl rfl ?_
                  refine z_callVF (n' := 0) (k' := 0) (As := [.int (iI (olI w (w 9 (((60) * (t)) + ((i : Int)))) (m))), .int (iI (m))]) (rest := []) C hκ hκl 205 (k7_overridesIt hD hw (olI w (w 9 (((60) * (t)) + ((i : Int)))) (m)) (m) ⟨by omega, by omega⟩ r_m hS (by omega) (by omega)) dX7_force_202 q2263 q2265 qs51 q97 q2266 znX7_overridesIt (Nat.le_of_ble_eq_true rfl) (Nat.le_of_ble_eq_true rfl) (Nat.le_of_ble_eq_true rfl) (Nat.le_of_ble_eq_true rfl) mrec rfl rfl (Nat.le_of_ble_eq_true rfl) rfl rfl rfl ?_
                  refine z_ifB_eq C 222 208 dX7_force_205 (by decide) rfl (fun c14 => ?_) (fun c14 => ?_)
                  · skip
                    refine z_iinc (lv' := [(0, .ref (am)), (1, .int (iI (t))), (2, .int (iI (m))), (3, .int (iI (bI (decide (w 1 (w 13 m) = 3))))), (4, .int (iI (((i : Int)) + 1))), (5, .int (iI (w 9 (((60) * (t)) + ((i : Int)))))), (6, .int (iI (olI w (w 9 (((60) * (t)) + ((i : Int)))) (m))))]) C 225 4 [1, 2, 3, 4, 0, 5, 6] dX7_force_222 rfl (by decide) rfl rfl ?_
                    refine z_goto C 137 dX7_force_225 (by decide) ?_
                    have hpi : fdP w m (w 9 (60 * t + i)) = false := by clear C hκ hκl; unfold fdP; first | (simp_all; done) | grind
                    refine z_sub [0, 1, 2, 3, 4] (lv' := [(0, .ref (am)), (1, .int (iI (t))), (2, .int (iI (m))), (3, .int (iI (bI (decide (w 1 (w 13 m) = 3))))), (4, .int (iI (((i : Int)) + 1)))]) rfl ?_
                    refine z_as (lv' := [(0, .ref (am)), (1, .int (iI (t))), (2, .int (iI (m))), (3, .int (iI (bI (decide (w 1 (w 13 m) = 3))))), (4, .int (iI (((i + 1) : Int))))]) rfl rfl rfl ?_
                    exact ih4 (i + 1) (by omega) (fun j hj => (Nat.lt_or_eq_of_le (Nat.le_of_lt_succ hj)).elim (hp j) (fun h => by rw [h]; exact hpi)) (by omega)
                  · skip
                    refine z_aload_n C 209 0 dX7_force_208 rfl rfl ?_
                    refine z_iload C 211 6 dX7_force_209 rfl rfl ?_
                    refine z_bipush C 213 dX7_force_211 (by decide) rfl ?_
                    refine z_callVF (n' := 0) (k' := 0) (As := [.int (iI (olI w (w 9 (((60) * (t)) + ((i : Int)))) (m))), .int (iI (16))]) (rest := []) C hκ hκl 216 (k7_has hD hw (olI w (w 9 (((60) * (t)) + ((i : Int)))) (m)) (16) ⟨by omega, by omega⟩ ⟨by decide, by decide⟩ (by omega)) dX7_force_213 q2271 q2273 qs53 q97 q2274 znX7_has (Nat.le_of_ble_eq_true rfl) (Nat.le_of_ble_eq_true rfl) (Nat.le_of_ble_eq_true rfl) (Nat.le_of_ble_eq_true rfl) mrec rfl rfl (Nat.le_of_ble_eq_true rfl) rfl rfl rfl ?_
                    refine z_ifB_ne C 222 219 dX7_force_216 (by decide) rfl (fun c15 => ?_) (fun c15 => ?_)
                    · skip
                      refine z_iinc (lv' := [(0, .ref (am)), (1, .int (iI (t))), (2, .int (iI (m))), (3, .int (iI (bI (decide (w 1 (w 13 m) = 3))))), (4, .int (iI (((i : Int)) + 1))), (5, .int (iI (w 9 (((60) * (t)) + ((i : Int)))))), (6, .int (iI (olI w (w 9 (((60) * (t)) + ((i : Int)))) (m))))]) C 225 4 [1, 2, 3, 4, 0, 5, 6] dX7_force_222 rfl (by decide) rfl rfl ?_
                      refine z_goto C 137 dX7_force_225 (by decide) ?_
                      have hpi : fdP w m (w 9 (60 * t + i)) = false := by clear C hκ hκl; unfold fdP; first | (simp_all; done) | grind
                      refine z_sub [0, 1, 2, 3, 4] (lv' := [(0, .ref (am)), (1, .int (iI (t))), (2, .int (iI (m))), (3, .int (iI (bI (decide (w 1 (w 13 m) = 3))))), (4, .int (iI (((i : Int)) + 1)))]) rfl ?_
                      refine z_as (lv' := [(0, .ref (am)), (1, .int (iI (t))), (2, .int (iI (m))), (3, .int (iI (bI (decide (w 1 (w 13 m) = 3))))), (4, .int (iI (((i + 1) : Int))))]) rfl rfl rfl ?_
                      exact ih4 (i + 1) (by omega) (fun j hj => (Nat.lt_or_eq_of_le (Nat.le_of_lt_succ hj)).elim (hp j) (fun h => by rw [h]; exact hpi)) (by omega)
                    · skip
                      refine z_iload C 221 6 dX7_force_219 rfl rfl ?_
                      exact z_iret C dX7_force_221 rfl (Nat.le_of_ble_eq_true rfl) (Nat.le_of_ble_eq_true rfl) ⟨congrArg (fun z => some (Value.int (iI z))) (by have hpi : fdP w m (w 9 (60 * t + i)) = true := (by clear C hκ hκl; unfold fdP; first | (simp_all; done) | grind); have hK : fdK w t m = i := (by unfold fdK; exact firstN_at (by omega) hpi hp); unfold foI; rw [if_neg (by omega), hK, if_pos (by omega)]), rfl⟩
      refine z_as (lv' := [(0, .ref (am)), (1, .int (iI (t))), (2, .int (iI (m))), (3, .int (iI (bI (decide (w 1 (w 13 m) = 3))))), (4, .int (iI (((0) : Int))))]) rfl rfl rfl ?_
      exact L137_3 _ (0) (by omega) (fun j h => absurd h (Nat.not_lt_zero _)) (Nat.lt_succ_self _)
  have L21_16 : ∀ (fu : Nat)   (hme : 0 < fu), Z κ (mP θ am ar w N) 0 0 21 [(0, .ref (am)), (1, .int (iI (t))), (2, .int (iI (m))), (3, .int (iI (bI (decide (w 1 (w 13 m) = 3)))))] [] := by
    intro fu
    induction fu with
    | zero => intro  hme; exact absurd hme (Nat.not_lt_zero _)
    | succ fu ih17 =>
      intro  hme
      refine z_iload_n C 22 1 dX7_force_21 rfl rfl ?_
      refine z_istore (lv' := [(0, .ref (am)), (1, .int (iI (t))), (2, .int (iI (m))), (3, .int (iI (bI (decide (w 1 (w 13 m) = 3))))), (4, .int (iI (t)))]) C 24 [1, 2, 3, 4, 0] dX7_force_22 (by decide) rfl rfl ?_
      have L24_18 : ∀ (fu : Nat) (u : Int) (f : Nat) (hu : -1 ≤ u ∧ u < w 0 0) (hF : fsF w m f u = fsF w m 61 t) (hf : u + 1 ≤ f) (hme : (u + 1).toNat < fu), Z κ (mP θ am ar w N) 0 0 24 [(0, .ref (am)), (1, .int (iI (t))), (2, .int (iI (m))), (3, .int (iI (bI (decide (w 1 (w 13 m) = 3))))), (4, .int (iI (u)))] [] := by
        intro fu
        induction fu with
        | zero => intro u f hu hF hf hme; exact absurd hme (Nat.not_lt_zero _)
        | succ fu ih19 =>
          intro u f hu hF hf hme
          refine z_iload C 26 4 dX7_force_24 rfl rfl ?_
          refine z_iconst C 27 dX7_force_26 rfl ?_
          refine z_icmp_eq C 134 30 dX7_force_27 (by decide) ⟨by omega, by omega⟩ ⟨by decide, by decide⟩ rfl (fun c20 => ?_) (fun c20 => ?_)
          · skip
            refine z_sub [0, 1, 2, 3] (lv' := [(0, .ref (am)), (1, .int (iI (t))), (2, .int (iI (m))), (3, .int (iI (bI (decide (w 1 (w 13 m) = 3)))))]) rfl ?_
            refine z_as (lv' := [(0, .ref (am)), (1, .int (iI (t))), (2, .int (iI (m))), (3, .int (iI (bI (decide (w 1 (w 13 m) = 3)))))]) rfl rfl rfl ?_
            exact L134_1 _  (by rw [← hF]; first | (rw [show u = -1 by omega]; exact fsF_e) | (rw [fsF_y (by omega) (by omega) (by clear C hκ hκl; unfold isK; first | (simp_all; done) | grind) (by omega), if_pos (by assumption)])) (Nat.lt_succ_self _)
          · skip
            refine z_aload_n C 31 0 dX7_force_30 rfl rfl ?_
            refine z_iload C 33 4 dX7_force_31 rfl rfl ?_
            refine z_iload_n C 34 2 dX7_force_33 rfl rfl ?_
            refine z_callVF (n' := 0) (k' := 0) (As := [.int (iI (u)), .int (iI (m))]) (rest := []) C hκ hκl 37 (k7_ownLike hD hw (u) (m) ⟨by omega, by omega⟩ r_m hS (by omega)) dX7_force_34 q2312 q2314 qs61 q97 q2315 znX7_ownLike (Nat.le_of_ble_eq_true rfl) (Nat.le_of_ble_eq_true rfl) (Nat.le_of_ble_eq_true rfl) (Nat.le_of_ble_eq_true rfl) mrec rfl rfl (Nat.le_of_ble_eq_true rfl) rfl rfl rfl ?_
            have h21 := olI_r (w := w) (t := u) (m := m) (by omega)
            refine z_istore (lv' := [(0, .ref (am)), (1, .int (iI (t))), (2, .int (iI (m))), (3, .int (iI (bI (decide (w 1 (w 13 m) = 3))))), (4, .int (iI (u))), (5, .int (iI (olI w (u) (m))))]) C 39 [1, 2, 3, 4, 5, 0] dX7_force_37 (by decide) rfl rfl ?_
            refine z_iload C 41 5 dX7_force_39 rfl rfl ?_
            refine z_iconst C 42 dX7_force_41 rfl ?_
            refine z_icmp_ne C 48 45 dX7_force_42 (by decide) ⟨by omega, by omega⟩ ⟨by decide, by decide⟩ rfl (fun c22 => ?_) (fun c22 => ?_)
            · skip
              refine z_iload C 50 5 dX7_force_48 rfl rfl ?_
              refine z_iload_n C 51 2 dX7_force_50 rfl rfl ?_
              refine z_icmp_eq C 88 54 dX7_force_51 (by decide) ⟨by omega, by omega⟩ r_m rfl (fun c23 => ?_) (fun c23 => ?_)
              · skip
                refine z_iconst C 89 dX7_force_88 rfl ?_
                refine z_goto C 93 dX7_force_89 (by decide) ?_
                refine z_istore (lv' := [(0, .ref (am)), (1, .int (iI (t))), (2, .int (iI (m))), (3, .int (iI (bI (decide (w 1 (w 13 m) = 3))))), (4, .int (iI (u))), (5, .int (iI (olI w (u) (m)))), (6, .int (iI (1)))]) C 95 [1, 2, 3, 4, 5, 6, 0] dX7_force_93 (by decide) rfl rfl ?_
                refine z_iload C 97 6 dX7_force_95 rfl rfl ?_
                refine z_if_eq C 114 100 dX7_force_97 (by decide) ⟨by decide, by decide⟩ rfl (fun c24 => absurd c24 (by decide)) (fun c24 => ?_)
                refine z_aload_n C 101 0 dX7_force_100 rfl rfl ?_
                refine z_iload C 103 5 dX7_force_101 rfl rfl ?_
                refine z_bipush C 105 dX7_force_103 (by decide) rfl ?_
                refine z_callVF (n' := 0) (k' := 0) (As := [.int (iI (olI w (u) (m))), .int (iI (16))]) (rest := []) C hκ hκl 108 (k7_has hD hw (olI w (u) (m)) (16) ⟨by omega, by omega⟩ ⟨by decide, by decide⟩ (by omega)) dX7_force_105 q2271 q2273 qs53 q97 q2274 znX7_has (Nat.le_of_ble_eq_true rfl) (Nat.le_of_ble_eq_true rfl) (Nat.le_of_ble_eq_true rfl) (Nat.le_of_ble_eq_true rfl) mrec rfl rfl (Nat.le_of_ble_eq_true rfl) rfl rfl rfl ?_
                refine z_ifB_eq C 114 111 dX7_force_108 (by decide) rfl (fun c25 => ?_) (fun c25 => ?_)
                · skip
                  refine z_iload C 116 6 dX7_force_114 rfl rfl ?_
                  refine z_if_eq C 122 119 dX7_force_116 (by decide) ⟨by decide, by decide⟩ rfl (fun c26 => absurd c26 (by decide)) (fun c26 => ?_)
                  refine z_iload C 121 5 dX7_force_119 rfl rfl ?_
                  exact z_iret C dX7_force_121 rfl (Nat.le_of_ble_eq_true rfl) (Nat.le_of_ble_eq_true rfl) ⟨congrArg (fun z => some (Value.int (iI z))) (by unfold foI; have hv := fsF_y (n := f) (t := u) (m := m) (by omega) (by omega) (by clear C hκ hκl; unfold isK; first | (simp_all; done) | grind) (by omega); rw [if_neg (by simp_all)] at hv; rw [← hF, hv, if_pos (by omega)]), rfl⟩
                · skip
                  refine z_goto C 134 dX7_force_111 (by decide) ?_
                  refine z_sub [0, 1, 2, 3] (lv' := [(0, .ref (am)), (1, .int (iI (t))), (2, .int (iI (m))), (3, .int (iI (bI (decide (w 1 (w 13 m) = 3)))))]) rfl ?_
                  refine z_as (lv' := [(0, .ref (am)), (1, .int (iI (t))), (2, .int (iI (m))), (3, .int (iI (bI (decide (w 1 (w 13 m) = 3)))))]) rfl rfl rfl ?_
                  exact L134_1 _  (by rw [← hF]; first | (rw [show u = -1 by omega]; exact fsF_e) | (rw [fsF_y (by omega) (by omega) (by clear C hκ hκl; unfold isK; first | (simp_all; done) | grind) (by omega), if_pos (by assumption)])) (Nat.lt_succ_self _)
              · skip
                refine z_aload_n C 55 0 dX7_force_54 rfl rfl ?_
                refine z_iload C 57 5 dX7_force_55 rfl rfl ?_
                refine z_iload_n C 58 2 dX7_force_57 rfl rfl ?_
                refine z_callVF (n' := 0) (k' := 0) (As := [.int (iI (olI w (u) (m))), .int (iI (m))]) (rest := []) C hκ hκl 61 (k7_overridesIt hD hw (olI w (u) (m)) (m) ⟨by omega, by omega⟩ r_m hS (by omega) (by omega)) dX7_force_58 q2263 q2265 qs51 q97 q2266 znX7_overridesIt (Nat.le_of_ble_eq_true rfl) (Nat.le_of_ble_eq_true rfl) (Nat.le_of_ble_eq_true rfl) (Nat.le_of_ble_eq_true rfl) mrec rfl rfl (Nat.le_of_ble_eq_true rfl) rfl rfl rfl ?_
                refine z_ifB_ne C 88 64 dX7_force_61 (by decide) rfl (fun c27 => ?_) (fun c27 => ?_)
                · skip
                  refine z_iconst C 89 dX7_force_88 rfl ?_
                  refine z_goto C 93 dX7_force_89 (by decide) ?_
                  refine z_istore (lv' := [(0, .ref (am)), (1, .int (iI (t))), (2, .int (iI (m))), (3, .int (iI (bI (decide (w 1 (w 13 m) = 3))))), (4, .int (iI (u))), (5, .int (iI (olI w (u) (m)))), (6, .int (iI (1)))]) C 95 [1, 2, 3, 4, 5, 6, 0] dX7_force_93 (by decide) rfl rfl ?_
                  refine z_iload C 97 6 dX7_force_95 rfl rfl ?_
                  refine z_if_eq C 114 100 dX7_force_97 (by decide) ⟨by decide, by decide⟩ rfl (fun c28 => absurd c28 (by decide)) (fun c28 => ?_)
                  refine z_aload_n C 101 0 dX7_force_100 rfl rfl ?_
                  refine z_iload C 103 5 dX7_force_101 rfl rfl ?_
                  refine z_bipush C 105 dX7_force_103 (by decide) rfl ?_
                  refine z_callVF (n' := 0) (k' := 0) (As := [.int (iI (olI w (u) (m))), .int (iI (16))]) (rest := []) C hκ hκl 108 (k7_has hD hw (olI w (u) (m)) (16) ⟨by omega, by omega⟩ ⟨by decide, by decide⟩ (by omega)) dX7_force_105 q2271 q2273 qs53 q97 q2274 znX7_has (Nat.le_of_ble_eq_true rfl) (Nat.le_of_ble_eq_true rfl) (Nat.le_of_ble_eq_true rfl) (Nat.le_of_ble_eq_true rfl) mrec rfl rfl (Nat.le_of_ble_eq_true rfl) rfl rfl rfl ?_
                  refine z_ifB_eq C 114 111 dX7_force_108 (by decide) rfl (fun c29 => ?_) (fun c29 => ?_)
                  · skip
                    refine z_iload C 116 6 dX7_force_114 rfl rfl ?_
                    refine z_if_eq C 122 119 dX7_force_116 (by decide) ⟨by decide, by decide⟩ rfl (fun c30 => absurd c30 (by decide)) (fun c30 => ?_)
                    refine z_iload C 121 5 dX7_force_119 rfl rfl ?_
                    exact z_iret C dX7_force_121 rfl (Nat.le_of_ble_eq_true rfl) (Nat.le_of_ble_eq_true rfl) ⟨congrArg (fun z => some (Value.int (iI z))) (by unfold foI; have hv := fsF_y (n := f) (t := u) (m := m) (by omega) (by omega) (by clear C hκ hκl; unfold isK; first | (simp_all; done) | grind) (by omega); rw [if_neg (by simp_all)] at hv; rw [← hF, hv, if_pos (by omega)]), rfl⟩
                  · skip
                    refine z_goto C 134 dX7_force_111 (by decide) ?_
                    refine z_sub [0, 1, 2, 3] (lv' := [(0, .ref (am)), (1, .int (iI (t))), (2, .int (iI (m))), (3, .int (iI (bI (decide (w 1 (w 13 m) = 3)))))]) rfl ?_
                    refine z_as (lv' := [(0, .ref (am)), (1, .int (iI (t))), (2, .int (iI (m))), (3, .int (iI (bI (decide (w 1 (w 13 m) = 3)))))]) rfl rfl rfl ?_
                    exact L134_1 _  (by rw [← hF]; first | (rw [show u = -1 by omega]; exact fsF_e) | (rw [fsF_y (by omega) (by omega) (by clear C hκ hκl; unfold isK; first | (simp_all; done) | grind) (by omega), if_pos (by assumption)])) (Nat.lt_succ_self _)
                · skip
                  refine z_iload_n C 65 3 dX7_force_64 rfl rfl ?_
                  refine z_ifB_eq C 92 68 dX7_force_65 (by decide) rfl (fun c31 => ?_) (fun c31 => ?_)
                  · skip
                    have c31b : ¬ ((w 1 (w 13 m) = 3)) := of_decide_eq_false c31
                    refine z_iconst C 93 dX7_force_92 rfl ?_
                    refine z_istore (lv' := [(0, .ref (am)), (1, .int (iI (t))), (2, .int (iI (m))), (3, .int (iI (bI (decide (w 1 (w 13 m) = 3))))), (4, .int (iI (u))), (5, .int (iI (olI w (u) (m)))), (6, .int (iI (0)))]) C 95 [1, 2, 3, 4, 5, 6, 0] dX7_force_93 (by decide) rfl rfl ?_
                    refine z_iload C 97 6 dX7_force_95 rfl rfl ?_
                    refine z_if_eq C 114 100 dX7_force_97 (by decide) ⟨by decide, by decide⟩ rfl (fun c32 => ?_) (fun c32 => absurd c32 (by decide))
                    refine z_iload C 116 6 dX7_force_114 rfl rfl ?_
                    refine z_if_eq C 122 119 dX7_force_116 (by decide) ⟨by decide, by decide⟩ rfl (fun c33 => ?_) (fun c33 => absurd c33 (by decide))
                    refine z_aload_n C 123 0 dX7_force_122 rfl rfl ?_
                    refine m_geta C hκ 126 2 (by decide) rfl q1997 rfl dX7_force_123 rfl ?_
                    refine z_iload C 128 4 dX7_force_126 rfl rfl ?_
                    obtain ⟨f34a, f34b, f34c, f34d, f34e, f34f, f34g, f34h⟩ := hS.T (show 0 ≤ u by omega) (by omega)
                    refine m_iald (len := 60) C hκ hD 129 2 (by decide) rfl rfl (by omega) (by omega) dX7_force_128 rfl ?_
                    refine z_istore (lv' := [(0, .ref (am)), (1, .int (iI (t))), (2, .int (iI (m))), (3, .int (iI (bI (decide (w 1 (w 13 m) = 3))))), (4, .int (iI (w 2 (u)))), (5, .int (iI (olI w (u) (m)))), (6, .int (iI (0)))]) C 131 [1, 2, 3, 4, 0, 5, 6] dX7_force_129 (by decide) rfl rfl ?_
                    refine z_goto C 24 dX7_force_131 (by decide) ?_
                    have hno : olI w u m = -1 ∨ isK w m (olI w u m) = false := by clear C hκ hκl; by_cases h9 : olI w u m = -1; exact Or.inl h9; right; unfold isK; first | (simp_all; done) | grind
                    have hst := fsF_n (n := f) (by omega) hno (by omega)
                    have hpu := (hS.T (show 0 ≤ u by omega) (by omega)).1
                    refine z_sub [0, 1, 2, 3, 4] (lv' := [(0, .ref (am)), (1, .int (iI (t))), (2, .int (iI (m))), (3, .int (iI (bI (decide (w 1 (w 13 m) = 3))))), (4, .int (iI (w 2 (u))))]) rfl ?_
                    refine z_as (lv' := [(0, .ref (am)), (1, .int (iI (t))), (2, .int (iI (m))), (3, .int (iI (bI (decide (w 1 (w 13 m) = 3))))), (4, .int (iI ((w 2 u))))]) rfl rfl rfl ?_
                    exact ih19 (w 2 u) (f - 1) (by omega) (by rw [← hst]; exact hF) (by omega) (by omega)
                  · skip
                    have c31b : ((w 1 (w 13 m) = 3)) := of_decide_eq_true c31
                    refine z_aload_n C 69 0 dX7_force_68 rfl rfl ?_
                    refine z_iload C 71 5 dX7_force_69 rfl rfl ?_
                    refine z_callVF (n' := 0) (k' := 0) (As := [.int (iI (olI w (u) (m)))]) (rest := []) C hκ hκl 74 (k7_who hD hw (olI w (u) (m)) ⟨by omega, by omega⟩ (by omega)) dX7_force_71 q2279 q2281 qs55 q97 q2282 znX7_who (Nat.le_of_ble_eq_true rfl) (Nat.le_of_ble_eq_true rfl) (Nat.le_of_ble_eq_true rfl) (Nat.le_of_ble_eq_true rfl) mrec rfl rfl (Nat.le_of_ble_eq_true rfl) rfl rfl rfl ?_
                    refine z_iconst C 75 dX7_force_74 rfl ?_
                    refine z_icmp_ne C 92 78 dX7_force_75 (by decide) (inR_zand _ _) ⟨by decide, by decide⟩ rfl (fun c35 => ?_) (fun c35 => ?_)
                    · skip
                      refine z_iconst C 93 dX7_force_92 rfl ?_
                      refine z_istore (lv' := [(0, .ref (am)), (1, .int (iI (t))), (2, .int (iI (m))), (3, .int (iI (bI (decide (w 1 (w 13 m) = 3))))), (4, .int (iI (u))), (5, .int (iI (olI w (u) (m)))), (6, .int (iI (0)))]) C 95 [1, 2, 3, 4, 5, 6, 0] dX7_force_93 (by decide) rfl rfl ?_
                      refine z_iload C 97 6 dX7_force_95 rfl rfl ?_
                      refine z_if_eq C 114 100 dX7_force_97 (by decide) ⟨by decide, by decide⟩ rfl (fun c36 => ?_) (fun c36 => absurd c36 (by decide))
                      refine z_iload C 116 6 dX7_force_114 rfl rfl ?_
                      refine z_if_eq C 122 119 dX7_force_116 (by decide) ⟨by decide, by decide⟩ rfl (fun c37 => ?_) (fun c37 => absurd c37 (by decide))
                      refine z_aload_n C 123 0 dX7_force_122 rfl rfl ?_
                      refine m_geta C hκ 126 2 (by decide) rfl q1997 rfl dX7_force_123 rfl ?_
                      refine z_iload C 128 4 dX7_force_126 rfl rfl ?_
                      obtain ⟨f38a, f38b, f38c, f38d, f38e, f38f, f38g, f38h⟩ := hS.T (show 0 ≤ u by omega) (by omega)
                      refine m_iald (len := 60) C hκ hD 129 2 (by decide) rfl rfl (by omega) (by omega) dX7_force_128 rfl ?_
                      refine z_istore (lv' := [(0, .ref (am)), (1, .int (iI (t))), (2, .int (iI (m))), (3, .int (iI (bI (decide (w 1 (w 13 m) = 3))))), (4, .int (iI (w 2 (u)))), (5, .int (iI (olI w (u) (m)))), (6, .int (iI (0)))]) C 131 [1, 2, 3, 4, 0, 5, 6] dX7_force_129 (by decide) rfl rfl ?_
                      refine z_goto C 24 dX7_force_131 (by decide) ?_
                      have hno : olI w u m = -1 ∨ isK w m (olI w u m) = false := by clear C hκ hκl; by_cases h9 : olI w u m = -1; exact Or.inl h9; right; unfold isK; first | (simp_all; done) | grind
                      have hst := fsF_n (n := f) (by omega) hno (by omega)
                      have hpu := (hS.T (show 0 ≤ u by omega) (by omega)).1
                      refine z_sub [0, 1, 2, 3, 4] (lv' := [(0, .ref (am)), (1, .int (iI (t))), (2, .int (iI (m))), (3, .int (iI (bI (decide (w 1 (w 13 m) = 3))))), (4, .int (iI (w 2 (u))))]) rfl ?_
                      refine z_as (lv' := [(0, .ref (am)), (1, .int (iI (t))), (2, .int (iI (m))), (3, .int (iI (bI (decide (w 1 (w 13 m) = 3))))), (4, .int (iI ((w 2 u))))]) rfl rfl rfl ?_
                      exact ih19 (w 2 u) (f - 1) (by omega) (by rw [← hst]; exact hF) (by omega) (by omega)
                    · skip
                      refine z_aload_n C 79 0 dX7_force_78 rfl rfl ?_
                      refine z_iload C 81 5 dX7_force_79 rfl rfl ?_
                      refine z_iconst C 82 dX7_force_81 rfl ?_
                      refine z_callVF (n' := 0) (k' := 0) (As := [.int (iI (olI w (u) (m))), .int (iI (4))]) (rest := []) C hκ hκl 85 (k7_has hD hw (olI w (u) (m)) (4) ⟨by omega, by omega⟩ ⟨by decide, by decide⟩ (by omega)) dX7_force_82 q2271 q2273 qs53 q97 q2274 znX7_has (Nat.le_of_ble_eq_true rfl) (Nat.le_of_ble_eq_true rfl) (Nat.le_of_ble_eq_true rfl) (Nat.le_of_ble_eq_true rfl) mrec rfl rfl (Nat.le_of_ble_eq_true rfl) rfl rfl rfl ?_
                      refine z_ifB_ne C 92 88 dX7_force_85 (by decide) rfl (fun c39 => ?_) (fun c39 => ?_)
                      · skip
                        refine z_iconst C 93 dX7_force_92 rfl ?_
                        refine z_istore (lv' := [(0, .ref (am)), (1, .int (iI (t))), (2, .int (iI (m))), (3, .int (iI (bI (decide (w 1 (w 13 m) = 3))))), (4, .int (iI (u))), (5, .int (iI (olI w (u) (m)))), (6, .int (iI (0)))]) C 95 [1, 2, 3, 4, 5, 6, 0] dX7_force_93 (by decide) rfl rfl ?_
                        refine z_iload C 97 6 dX7_force_95 rfl rfl ?_
                        refine z_if_eq C 114 100 dX7_force_97 (by decide) ⟨by decide, by decide⟩ rfl (fun c40 => ?_) (fun c40 => absurd c40 (by decide))
                        refine z_iload C 116 6 dX7_force_114 rfl rfl ?_
                        refine z_if_eq C 122 119 dX7_force_116 (by decide) ⟨by decide, by decide⟩ rfl (fun c41 => ?_) (fun c41 => absurd c41 (by decide))
                        refine z_aload_n C 123 0 dX7_force_122 rfl rfl ?_
                        refine m_geta C hκ 126 2 (by decide) rfl q1997 rfl dX7_force_123 rfl ?_
                        refine z_iload C 128 4 dX7_force_126 rfl rfl ?_
                        obtain ⟨f42a, f42b, f42c, f42d, f42e, f42f, f42g, f42h⟩ := hS.T (show 0 ≤ u by omega) (by omega)
                        refine m_iald (len := 60) C hκ hD 129 2 (by decide) rfl rfl (by omega) (by omega) dX7_force_128 rfl ?_
                        refine z_istore (lv' := [(0, .ref (am)), (1, .int (iI (t))), (2, .int (iI (m))), (3, .int (iI (bI (decide (w 1 (w 13 m) = 3))))), (4, .int (iI (w 2 (u)))), (5, .int (iI (olI w (u) (m)))), (6, .int (iI (0)))]) C 131 [1, 2, 3, 4, 0, 5, 6] dX7_force_129 (by decide) rfl rfl ?_
                        refine z_goto C 24 dX7_force_131 (by decide) ?_
                        have hno : olI w u m = -1 ∨ isK w m (olI w u m) = false := by clear C hκ hκl; by_cases h9 : olI w u m = -1; exact Or.inl h9; right; unfold isK; first | (simp_all; done) | grind
                        have hst := fsF_n (n := f) (by omega) hno (by omega)
                        have hpu := (hS.T (show 0 ≤ u by omega) (by omega)).1
                        refine z_sub [0, 1, 2, 3, 4] (lv' := [(0, .ref (am)), (1, .int (iI (t))), (2, .int (iI (m))), (3, .int (iI (bI (decide (w 1 (w 13 m) = 3))))), (4, .int (iI (w 2 (u))))]) rfl ?_
                        refine z_as (lv' := [(0, .ref (am)), (1, .int (iI (t))), (2, .int (iI (m))), (3, .int (iI (bI (decide (w 1 (w 13 m) = 3))))), (4, .int (iI ((w 2 u))))]) rfl rfl rfl ?_
                        exact ih19 (w 2 u) (f - 1) (by omega) (by rw [← hst]; exact hF) (by omega) (by omega)
                      · skip
                        refine z_iconst C 89 dX7_force_88 rfl ?_
                        refine z_goto C 93 dX7_force_89 (by decide) ?_
                        refine z_istore (lv' := [(0, .ref (am)), (1, .int (iI (t))), (2, .int (iI (m))), (3, .int (iI (bI (decide (w 1 (w 13 m) = 3))))), (4, .int (iI (u))), (5, .int (iI (olI w (u) (m)))), (6, .int (iI (1)))]) C 95 [1, 2, 3, 4, 5, 6, 0] dX7_force_93 (by decide) rfl rfl ?_
                        refine z_iload C 97 6 dX7_force_95 rfl rfl ?_
                        refine z_if_eq C 114 100 dX7_force_97 (by decide) ⟨by decide, by decide⟩ rfl (fun c43 => absurd c43 (by decide)) (fun c43 => ?_)
                        refine z_aload_n C 101 0 dX7_force_100 rfl rfl ?_
                        refine z_iload C 103 5 dX7_force_101 rfl rfl ?_
                        refine z_bipush C 105 dX7_force_103 (by decide) rfl ?_
                        refine z_callVF (n' := 0) (k' := 0) (As := [.int (iI (olI w (u) (m))), .int (iI (16))]) (rest := []) C hκ hκl 108 (k7_has hD hw (olI w (u) (m)) (16) ⟨by omega, by omega⟩ ⟨by decide, by decide⟩ (by omega)) dX7_force_105 q2271 q2273 qs53 q97 q2274 znX7_has (Nat.le_of_ble_eq_true rfl) (Nat.le_of_ble_eq_true rfl) (Nat.le_of_ble_eq_true rfl) (Nat.le_of_ble_eq_true rfl) mrec rfl rfl (Nat.le_of_ble_eq_true rfl) rfl rfl rfl ?_
                        refine z_ifB_eq C 114 111 dX7_force_108 (by decide) rfl (fun c44 => ?_) (fun c44 => ?_)
                        · skip
                          refine z_iload C 116 6 dX7_force_114 rfl rfl ?_
                          refine z_if_eq C 122 119 dX7_force_116 (by decide) ⟨by decide, by decide⟩ rfl (fun c45 => absurd c45 (by decide)) (fun c45 => ?_)
                          refine z_iload C 121 5 dX7_force_119 rfl rfl ?_
                          exact z_iret C dX7_force_121 rfl (Nat.le_of_ble_eq_true rfl) (Nat.le_of_ble_eq_true rfl) ⟨congrArg (fun z => some (Value.int (iI z))) (by unfold foI; have hv := fsF_y (n := f) (t := u) (m := m) (by omega) (by omega) (by clear C hκ hκl; unfold isK; first | (simp_all; done) | grind) (by omega); rw [if_neg (by simp_all)] at hv; rw [← hF, hv, if_pos (by omega)]), rfl⟩
                        · skip
                          refine z_goto C 134 dX7_force_111 (by decide) ?_
                          refine z_sub [0, 1, 2, 3] (lv' := [(0, .ref (am)), (1, .int (iI (t))), (2, .int (iI (m))), (3, .int (iI (bI (decide (w 1 (w 13 m) = 3)))))]) rfl ?_
                          refine z_as (lv' := [(0, .ref (am)), (1, .int (iI (t))), (2, .int (iI (m))), (3, .int (iI (bI (decide (w 1 (w 13 m) = 3)))))]) rfl rfl rfl ?_
                          exact L134_1 _  (by rw [← hF]; first | (rw [show u = -1 by omega]; exact fsF_e) | (rw [fsF_y (by omega) (by omega) (by clear C hκ hκl; unfold isK; first | (simp_all; done) | grind) (by omega), if_pos (by assumption)])) (Nat.lt_succ_self _)
            · skip
              refine z_goto C 122 dX7_force_45 (by decide) ?_
              refine z_aload_n C 123 0 dX7_force_122 rfl rfl ?_
              refine m_geta C hκ 126 2 (by decide) rfl q1997 rfl dX7_force_123 rfl ?_
              refine z_iload C 128 4 dX7_force_126 rfl rfl ?_
              obtain ⟨f46a, f46b, f46c, f46d, f46e, f46f, f46g, f46h⟩ := hS.T (show 0 ≤ u by omega) (by omega)
              refine m_iald (len := 60) C hκ hD 129 2 (by decide) rfl rfl (by omega) (by omega) dX7_force_128 rfl ?_
              refine z_istore (lv' := [(0, .ref (am)), (1, .int (iI (t))), (2, .int (iI (m))), (3, .int (iI (bI (decide (w 1 (w 13 m) = 3))))), (4, .int (iI (w 2 (u)))), (5, .int (iI (olI w (u) (m))))]) C 131 [1, 2, 3, 4, 0, 5] dX7_force_129 (by decide) rfl rfl ?_
              refine z_goto C 24 dX7_force_131 (by decide) ?_
              have hno : olI w u m = -1 ∨ isK w m (olI w u m) = false := by clear C hκ hκl; by_cases h9 : olI w u m = -1; exact Or.inl h9; right; unfold isK; first | (simp_all; done) | grind
              have hst := fsF_n (n := f) (by omega) hno (by omega)
              have hpu := (hS.T (show 0 ≤ u by omega) (by omega)).1
              refine z_sub [0, 1, 2, 3, 4] (lv' := [(0, .ref (am)), (1, .int (iI (t))), (2, .int (iI (m))), (3, .int (iI (bI (decide (w 1 (w 13 m) = 3))))), (4, .int (iI (w 2 (u))))]) rfl ?_
              refine z_as (lv' := [(0, .ref (am)), (1, .int (iI (t))), (2, .int (iI (m))), (3, .int (iI (bI (decide (w 1 (w 13 m) = 3))))), (4, .int (iI ((w 2 u))))]) rfl rfl rfl ?_
              exact ih19 (w 2 u) (f - 1) (by omega) (by rw [← hst]; exact hF) (by omega) (by omega)
      refine z_as (lv' := [(0, .ref (am)), (1, .int (iI (t))), (2, .int (iI (m))), (3, .int (iI (bI (decide (w 1 (w 13 m) = 3))))), (4, .int (iI ((t))))]) rfl rfl rfl ?_
      exact L24_18 _ (t) (61) (by omega) rfl (by omega) (Nat.lt_succ_self _)
  refine z_aload_n C 1 0 dX7_force_0 rfl rfl ?_
  refine m_geta C hκ 4 1 (by decide) rfl q1996 rfl dX7_force_1 rfl ?_
  refine z_aload_n C 5 0 dX7_force_4 rfl rfl ?_
  refine m_geta C hκ 8 13 (by decide) rfl q2008 rfl dX7_force_5 rfl ?_
  refine z_iload_n C 9 2 dX7_force_8 rfl rfl ?_
  obtain ⟨f47a, f47b, f47c, f47d⟩ := hS.M (show 0 ≤ m by omega) (by omega)
  refine m_iald (len := 100) C hκ hD 10 13 (by decide) rfl rfl (by omega) (by omega) dX7_force_9 rfl ?_
  obtain ⟨f48a, f48b, f48c, f48d, f48e, f48f, f48g, f48h⟩ := hS.T (show 0 ≤ w 13 (m) by omega) (by omega)
  refine m_iald (len := 60) C hκ hD 11 1 (by decide) rfl rfl (by omega) (by omega) dX7_force_10 rfl ?_
  refine z_iconst C 12 dX7_force_11 rfl ?_
  refine z_icmp_ne C 19 15 dX7_force_12 (by decide) (hw.r _ _ rfl) ⟨by decide, by decide⟩ rfl (fun c49 => ?_) (fun c49 => ?_)
  · skip
    refine z_iconst C 20 dX7_force_19 rfl ?_
    refine z_istore_n (lv' := [(0, .ref (am)), (1, .int (iI (t))), (2, .int (iI (m))), (3, .int (iI (0)))]) C 21 [1, 2, 3, 0] dX7_force_20 (by decide) rfl rfl ?_
    refine z_as (lv' := [(0, .ref (am)), (1, .int (iI (t))), (2, .int (iI (m))), (3, .int (iI (bI (decide (w 1 (w 13 m) = 3)))))]) rfl (congrArg (fun z9 => ([(0, .ref (am)), (1, .int (iI (t))), (2, .int (iI (m))), (3, .int (iI (bI (z9))))] : List (Nat × Value))) (show (false) = (decide (w 1 (w 13 m) = 3)) from by clear C hκ hκl hS hB hB1 hB2 hB3 hB4 hB5 hB6 hC hD hw t1 t2 t3 t4 t5 t6 t7 t8 L134_1 L21_16 f47a f47b f47c f47d f48a f48b f48c f48d f48e f48f f48g f48h; simp_all)) rfl ?_
    exact L21_16 _   (Nat.lt_succ_self _)
  · skip
    refine z_iconst C 16 dX7_force_15 rfl ?_
    refine z_goto C 20 dX7_force_16 (by decide) ?_
    refine z_istore_n (lv' := [(0, .ref (am)), (1, .int (iI (t))), (2, .int (iI (m))), (3, .int (iI (1)))]) C 21 [1, 2, 3, 0] dX7_force_20 (by decide) rfl rfl ?_
    refine z_as (lv' := [(0, .ref (am)), (1, .int (iI (t))), (2, .int (iI (m))), (3, .int (iI (bI (decide (w 1 (w 13 m) = 3)))))]) rfl (congrArg (fun z9 => ([(0, .ref (am)), (1, .int (iI (t))), (2, .int (iI (m))), (3, .int (iI (bI (z9))))] : List (Nat × Value))) (show (true) = (decide (w 1 (w 13 m) = 3)) from by clear C hκ hκl hS hB hB1 hB2 hB3 hB4 hB5 hB6 hC hD hw t1 t2 t3 t4 t5 t6 t7 t8 L134_1 L21_16 f47a f47b f47c f47d f48a f48b f48c f48d f48e f48f f48g f48h; simp_all)) rfl ?_
    exact L21_16 _   (Nat.lt_succ_self _)
set_option maxRecDepth 100000 in
theorem k7_inForce {l : Launch} {θ : zTh} {N : zMap} {am : Nat} {ar : Nat → Nat} {w : mW} (hD : mDis am ar) (hw : mWF w) (t : Int) (m : Int) (r_t : inR t) (r_m : inR m) (hS : mS w)  : ZF θ l yX7_inForce cX7_inForce 3 (some .int) ⟨4, 0, 0, 92⟩ [.ref (am), .int (iI (t)), .int (iI (m))] (mP θ am ar w N) (some (.int (iI (ifI w t m)))) (mP θ am ar w N) := by
  refine z_start (own := RX7) (nm := "inForce") pnX7 rfl rfl (Nat.le_of_ble_eq_true rfl) ?_
  intro κ hκ hκl C
  change Z κ (mP θ am ar w N) 0 0 0 [(0, .ref (am)), (1, .int (iI (t))), (2, .int (iI (m)))] []
  have hB := hS.B
  obtain ⟨hB1, hB2, hB3, hB4, hB5, hB6⟩ := hS.B
  have hC := hS.C
  refine z_aload_n C 1 0 dX7_inForce_0 rfl rfl ?_
  refine z_iload_n C 2 1 dX7_inForce_1 rfl rfl ?_
  refine z_callVF (n' := 0) (k' := 0) (As := [.int (iI (t))]) (rest := []) C hκ hκl 5 (k7_isClass hD hw (t) r_t hB) dX7_inForce_2 q2156 q2158 qs39 q97 q2159 znX7_isClass (Nat.le_of_ble_eq_true rfl) (Nat.le_of_ble_eq_true rfl) (Nat.le_of_ble_eq_true rfl) (Nat.le_of_ble_eq_true rfl) mrec rfl rfl (Nat.le_of_ble_eq_true rfl) rfl rfl rfl ?_
  refine z_ifB_eq C 47 8 dX7_inForce_5 (by decide) rfl (fun c1 => ?_) (fun c1 => ?_)
  · skip
    have c1b : ¬ (0 ≤ (t) ∧ (t) < w 0 0 ∧ (w 1 (t) = 1 ∨ w 1 (t) = 2)) := of_decide_eq_false c1
    refine z_bipush C 49 dX7_inForce_47 (by decide) rfl ?_
    exact z_iret C dX7_inForce_49 rfl (Nat.le_of_ble_eq_true rfl) (Nat.le_of_ble_eq_true rfl) ⟨congrArg (fun z => some (Value.int (iI z))) (by clear C hκ hκl hS hB hB1 hB2 hB3 hB4 hB5 hB6 hC hD hw; unfold ifI; rw [if_pos]; first | (simp_all; done) | grind), rfl⟩
  · skip
    have c1b : (0 ≤ (t) ∧ (t) < w 0 0 ∧ (w 1 (t) = 1 ∨ w 1 (t) = 2)) := of_decide_eq_true c1
    refine z_aload_n C 9 0 dX7_inForce_8 rfl rfl ?_
    refine z_iload_n C 10 2 dX7_inForce_9 rfl rfl ?_
    refine z_callVF (n' := 0) (k' := 0) (As := [.int (iI (m))]) (rest := []) C hκ hκl 13 (k7_isMethod hD hw (m) r_m hB) dX7_inForce_10 q2304 q2306 qs59 q97 q2307 znX7_isMethod (Nat.le_of_ble_eq_true rfl) (Nat.le_of_ble_eq_true rfl) (Nat.le_of_ble_eq_true rfl) (Nat.le_of_ble_eq_true rfl) mrec rfl rfl (Nat.le_of_ble_eq_true rfl) rfl rfl rfl ?_
    refine z_ifB_eq C 47 16 dX7_inForce_13 (by decide) rfl (fun c2 => ?_) (fun c2 => ?_)
    · skip
      have c2b : ¬ (0 ≤ (m) ∧ (m) < w 11 0 ∧ w 16 (m) ≠ 1) := of_decide_eq_false c2
      refine z_bipush C 49 dX7_inForce_47 (by decide) rfl ?_
      exact z_iret C dX7_inForce_49 rfl (Nat.le_of_ble_eq_true rfl) (Nat.le_of_ble_eq_true rfl) ⟨congrArg (fun z => some (Value.int (iI z))) (by clear C hκ hκl hS hB hB1 hB2 hB3 hB4 hB5 hB6 hC hD hw; unfold ifI; rw [if_pos]; first | (simp_all; done) | grind), rfl⟩
    · skip
      have c2b : (0 ≤ (m) ∧ (m) < w 11 0 ∧ w 16 (m) ≠ 1) := of_decide_eq_true c2
      refine z_aload_n C 17 0 dX7_inForce_16 rfl rfl ?_
      refine z_iload_n C 18 2 dX7_inForce_17 rfl rfl ?_
      refine z_iconst C 19 dX7_inForce_18 rfl ?_
      refine z_callVF (n' := 0) (k' := 0) (As := [.int (iI (m)), .int (iI (4))]) (rest := []) C hκ hκl 22 (k7_has hD hw (m) (4) r_m ⟨by decide, by decide⟩ (by omega)) dX7_inForce_19 q2271 q2273 qs53 q97 q2274 znX7_has (Nat.le_of_ble_eq_true rfl) (Nat.le_of_ble_eq_true rfl) (Nat.le_of_ble_eq_true rfl) (Nat.le_of_ble_eq_true rfl) mrec rfl rfl (Nat.le_of_ble_eq_true rfl) rfl rfl rfl ?_
      refine z_ifB_ne C 47 25 dX7_inForce_22 (by decide) rfl (fun c3 => ?_) (fun c3 => ?_)
      · skip
        refine z_bipush C 49 dX7_inForce_47 (by decide) rfl ?_
        exact z_iret C dX7_inForce_49 rfl (Nat.le_of_ble_eq_true rfl) (Nat.le_of_ble_eq_true rfl) ⟨congrArg (fun z => some (Value.int (iI z))) (by clear C hκ hκl hS hB hB1 hB2 hB3 hB4 hB5 hB6 hC hD hw; unfold ifI; rw [if_pos]; first | (simp_all; done) | grind), rfl⟩
      · skip
        refine z_aload_n C 26 0 dX7_inForce_25 rfl rfl ?_
        refine z_iload_n C 27 2 dX7_inForce_26 rfl rfl ?_
        refine z_callVF (n' := 0) (k' := 0) (As := [.int (iI (m))]) (rest := []) C hκ hκl 30 (k7_isPrivate hD hw (m) r_m (by omega)) dX7_inForce_27 q2275 q2277 qs54 q97 q2278 znX7_isPrivate (Nat.le_of_ble_eq_true rfl) (Nat.le_of_ble_eq_true rfl) (Nat.le_of_ble_eq_true rfl) (Nat.le_of_ble_eq_true rfl) mrec rfl rfl (Nat.le_of_ble_eq_true rfl) rfl rfl rfl ?_
        refine z_ifB_ne C 47 33 dX7_inForce_30 (by decide) rfl (fun c4 => ?_) (fun c4 => ?_)
        · skip
          have c4b : (whoI w (m) = 2) := of_decide_eq_true c4
          refine z_bipush C 49 dX7_inForce_47 (by decide) rfl ?_
          exact z_iret C dX7_inForce_49 rfl (Nat.le_of_ble_eq_true rfl) (Nat.le_of_ble_eq_true rfl) ⟨congrArg (fun z => some (Value.int (iI z))) (by clear C hκ hκl hS hB hB1 hB2 hB3 hB4 hB5 hB6 hC hD hw; unfold ifI; rw [if_pos]; first | (simp_all; done) | grind), rfl⟩
        · skip
          have c4b : ¬ (whoI w (m) = 2) := of_decide_eq_false c4
          refine z_aload_n C 34 0 dX7_inForce_33 rfl rfl ?_
          refine z_iload_n C 35 1 dX7_inForce_34 rfl rfl ?_
          refine z_aload_n C 36 0 dX7_inForce_35 rfl rfl ?_
          refine m_geta C hκ 39 13 (by decide) rfl q2008 rfl dX7_inForce_36 rfl ?_
          refine z_iload_n C 40 2 dX7_inForce_39 rfl rfl ?_
          obtain ⟨f5a, f5b, f5c, f5d⟩ := hS.M (show 0 ≤ m by omega) (by omega)
          refine m_iald (len := 100) C hκ hD 41 13 (by decide) rfl rfl (by omega) (by omega) dX7_inForce_40 rfl ?_
          refine z_callVF (n' := 0) (k' := 0) (As := [.int (iI (t)), .int (iI (w 13 (m)))]) (rest := []) C hκ hκl 44 (k7_isOne hD hw (t) (w 13 (m)) r_t (hw.r _ _ rfl) (by omega) (by omega)) dX7_inForce_41 q2197 q2199 qs44 q97 q2200 znX7_isOne (Nat.le_of_ble_eq_true rfl) (Nat.le_of_ble_eq_true rfl) (Nat.le_of_ble_eq_true rfl) (Nat.le_of_ble_eq_true rfl) mrec rfl rfl (Nat.le_of_ble_eq_true rfl) rfl rfl rfl ?_
          refine z_ifB_ne C 50 47 dX7_inForce_44 (by decide) rfl (fun c6 => ?_) (fun c6 => ?_)
          · skip
            refine z_aload_n C 51 0 dX7_inForce_50 rfl rfl ?_
            refine z_iload_n C 52 1 dX7_inForce_51 rfl rfl ?_
            refine z_iload_n C 53 2 dX7_inForce_52 rfl rfl ?_
            refine z_callVF (n' := 0) (k' := 0) (As := [.int (iI (t)), .int (iI (m))]) (rest := []) C hκ hκl 56 (k7_force hD hw (t) (m) r_t r_m hS (by omega) (by omega)) dX7_inForce_53 q2320 q2322 qs62 q97 q2323 znX7_force (Nat.le_of_ble_eq_true rfl) (Nat.le_of_ble_eq_true rfl) (Nat.le_of_ble_eq_true rfl) (Nat.le_of_ble_eq_true rfl) mrec rfl rfl (Nat.le_of_ble_eq_true rfl) rfl rfl rfl ?_
            have h7 := foI_r (w := w) (t := t) (m := m) (by omega)
            exact z_iret C dX7_inForce_56 rfl (Nat.le_of_ble_eq_true rfl) (Nat.le_of_ble_eq_true rfl) ⟨congrArg (fun z => some (Value.int (iI z))) (by clear C hκ hκl hS hB hB1 hB2 hB3 hB4 hB5 hB6 hC hD hw f5a f5b f5c f5d; unfold ifI; rw [if_neg]; first | (simp_all; done) | grind), rfl⟩
          · skip
            refine z_bipush C 49 dX7_inForce_47 (by decide) rfl ?_
            exact z_iret C dX7_inForce_49 rfl (Nat.le_of_ble_eq_true rfl) (Nat.le_of_ble_eq_true rfl) ⟨congrArg (fun z => some (Value.int (iI z))) (by clear C hκ hκl hS hB hB1 hB2 hB3 hB4 hB5 hB6 hC hD hw f5a f5b f5c f5d; unfold ifI; rw [if_pos]; first | (simp_all; done) | grind), rfl⟩
