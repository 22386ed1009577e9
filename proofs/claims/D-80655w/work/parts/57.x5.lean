set_option maxRecDepth 100000 in
theorem k0_inForce_2 {l : Launch} {θ : zTh} {σ : xA} {w : mW} {M N : zMap} (hX : xM θ σ w (xL w) M) (hs : xS w) (hw : mWF w) (hT : zTb θ) (t : Int) (m : Int)  (ht : 8 ≤ t ∧ t < w 0 0) (hm : 0 ≤ m ∧ m < w 11 0) (hUq : xUq w) : ZM θ l yX0_inForce_2 cX0_inForce_2 8 (some (.object "ReflectMirror$Member")) ⟨248, 0, 0, 2552⟩ [.ref (σ 0 (0)), .ref (σ 10 (t)), .ref (σ 20 (m))] (zP θ M N) (zFn (some (va_rf (xo σ 20 (foI w t m)))) (zP θ M N)) := by
  refine z_start (own := RX0) (nm := "inForce") pnX0 rfl rfl (Nat.le_of_ble_eq_true rfl) ?_
  intro κ hκ hκl C
  change Z κ (zP θ M N) 0 0 0 [(0, .ref (σ 0 (0))), (1, .ref (σ 10 (t))), (2, .ref (σ 20 (m)))] []
  have hS := hs.S
  have hB := hS.B
  obtain ⟨hB1, hB2, hB3, hB4, hB5, hB6⟩ := hS.B
  have hC := hS.C
  obtain ⟨h81, h82⟩ := hs.r8
  obtain ⟨f1a, f1b, f1c, f1d, f1e, f1f, f1g, f1h⟩ := hS.T (show 0 ≤ t by omega) (by omega)
  obtain ⟨f1i, f1j, f1k, f1l⟩ := hs.ty (show 0 ≤ t by omega) (by omega)
  obtain ⟨f2a, f2b, f2c, f2d⟩ := hS.M (show 0 ≤ m by omega) (by omega)
  have hln := xab_len hs (show 0 ≤ t by omega) ht.2
  rw [if_pos ht.1] at hln
  have L132_3 : ∀ (fu : Nat)  (hR : fsF w m 61 t = -1) (hme : 0 < fu), Z κ (zP θ M N) 0 0 132 [(0, .ref (σ 0 (0))), (1, .ref (σ 10 (t))), (2, .ref (σ 20 (m))), (3, .int (iI (bI (decide (w 1 (w 13 m) = 3)))))] [] := by
    intro fu
    induction fu with
    | zero => intro hR hme; exact absurd hme (Nat.not_lt_zero _)
    | succ fu ih4 =>
      intro hR hme
      refine z_iconst C 133 dX0_inForce_2_132 rfl ?_
      refine z_istore (lv' := [(0, .ref (σ 0 (0))), (1, .ref (σ 10 (t))), (2, .ref (σ 20 (m))), (3, .int (iI (bI (decide (w 1 (w 13 m) = 3))))), (5, .int (iI (0)))]) C 135 [1, 2, 3, 4, 0] dX0_inForce_2_133 (by decide) rfl rfl ?_
      have L135_5 : ∀ (fu : Nat) (i : Nat) (hi : (i : Int) ≤ w 10 t) (hp : ∀ j : Nat, j < i → fdP w m (w 9 (60 * t + j)) = false) (hme : (w 10 t).toNat - i < fu), Z κ (zP θ M N) 0 0 135 [(0, .ref (σ 0 (0))), (1, .ref (σ 10 (t))), (2, .ref (σ 20 (m))), (3, .int (iI (bI (decide (w 1 (w 13 m) = 3))))), (5, .int (iI ((i : Int))))] [] := by
        intro fu
        induction fu with
        | zero => intro i hi hp hme; exact absurd hme (Nat.not_lt_zero _)
        | succ fu ih6 =>
          intro i hi hp hme
          refine z_iload C 137 4 dX0_inForce_2_135 rfl rfl ?_
          refine z_aload_n C 138 1 dX0_inForce_2_137 rfl rfl ?_
          refine x_tget (v := .int (iI ((((xL w) (t)).length : Int)))) C hκ 141 5 hX hs (by omega) (by omega) (by decide) rfl rfl rfl q195 (Or.inl rfl) rfl dX0_inForce_2_138 rfl ?_
          refine z_icmp_ge C 214 144 dX0_inForce_2_141 (by decide) ⟨by omega, by omega⟩ ⟨by omega, by omega⟩ rfl (fun c7 => ?_) (fun c7 => ?_)
          · skip
            refine z_null C 215 dX0_inForce_2_214 rfl ?_
            exact z_aret C dX0_inForce_2_215 (Or.inl ⟨_, rfl⟩) (Or.inl rfl) (Nat.le_of_ble_eq_true rfl) (Nat.le_of_ble_eq_true rfl) ⟨congrArg some (by have hK : fdK w t m = (w 10 t).toNat := (by unfold fdK; exact firstN_none (fun j h => hp j (by omega))); unfold foI; rw [if_neg (by omega), hK, if_neg (by omega), xo_n (by decide)]; rfl), rfl⟩
          · skip
            have t6i := (hS.T (show 0 ≤ t by omega) ht.2).2.2.2.2.2.1 i (by omega) (by omega)
            refine z_aload_n C 145 1 dX0_inForce_2_144 rfl rfl ?_
            refine x_tget (v := .ref (σ 12 (t))) C hκ 148 4 hX hs (by omega) (by omega) (by decide) rfl rfl rfl q194 (Or.inl rfl) rfl dX0_inForce_2_145 rfl ?_
            refine z_iload C 150 4 dX0_inForce_2_148 rfl rfl ?_
            refine x_aab (a := (w 9 (60 * t + (i : Int)))) C hκ 151 hX (by omega) (by omega) (by omega) (by omega) (xab_at hs ht.1 ht.2 (by omega) (by omega)) dX0_inForce_2_150 rfl ?_
            refine z_astore (lv' := [(0, .ref (σ 0 (0))), (1, .ref (σ 10 (t))), (2, .ref (σ 20 (m))), (3, .int (iI (bI (decide (w 1 (w 13 m) = 3))))), (5, .int (iI ((i : Int)))), (6, .ref (σ 10 ((w 9 (60 * t + (i : Int))))))]) C 153 [1, 2, 3, 4, 5, 0] dX0_inForce_2_151 (by decide) rfl rfl ?_
            refine z_aload C 155 5 dX0_inForce_2_153 rfl rfl ?_
            obtain ⟨f8a, f8b, f8c, f8d, f8e, f8f, f8g, f8h⟩ := hS.T (show 0 ≤ (w 9 (60 * t + (i : Int))) by omega) (by omega)
            obtain ⟨f8i, f8j, f8k, f8l⟩ := hs.ty (show 0 ≤ (w 9 (60 * t + (i : Int))) by omega) (by omega)
            refine xv_what (rest := []) C hκ hκl hX hs hw hT ((w 9 (60 * t + (i : Int))))   ⟨(by omega), (by omega)⟩  158 dX0_inForce_2_155 q459 (Nat.le_of_ble_eq_true rfl) (Nat.le_of_ble_eq_true rfl) (Nat.le_of_ble_eq_true rfl) (Nat.le_of_ble_eq_true rfl) (Nat.le_of_ble_eq_true rfl) rfl ?_
            refine z_as (st' := [.int (iI (w 1 ((w 9 (60 * t + (i : Int))))))]) rfl rfl rfl ?_
            refine z_iconst C 159 dX0_inForce_2_158 rfl ?_
            refine z_icmp_ne C 172 162 dX0_inForce_2_159 (by decide) (hw.r _ _ rfl) ⟨by decide, by decide⟩ rfl (fun c9 => ?_) (fun c9 => ?_)
            · skip
              refine z_null C 173 dX0_inForce_2_172 rfl ?_
              refine z_astoreN (lv' := [(0, .ref (σ 0 (0))), (1, .ref (σ 10 (t))), (2, .ref (σ 20 (m))), (3, .int (iI (bI (decide (w 1 (w 13 m) = 3))))), (5, .int (iI ((i : Int)))), (6, .ref (σ 10 ((w 9 (60 * t + (i : Int)))))), (7, .null)]) C 175 [1, 2, 3, 4, 5, 6, 0] dX0_inForce_2_173 (by decide) rfl rfl ?_
              refine z_aloadN C 177 6 dX0_inForce_2_175 rfl rfl ?_
              refine z_ifnullN C 208 dX0_inForce_2_177 (by decide) ?_
              refine z_iinc (lv' := [(0, .ref (σ 0 (0))), (1, .ref (σ 10 (t))), (2, .ref (σ 20 (m))), (3, .int (iI (bI (decide (w 1 (w 13 m) = 3))))), (5, .int (iI (((i : Int)) + 1))), (6, .ref (σ 10 ((w 9 (60 * t + (i : Int)))))), (7, .null)]) C 211 4 [1, 2, 3, 4, 0, 5, 6] dX0_inForce_2_208 rfl (by decide) rfl rfl ?_
              refine z_goto C 135 dX0_inForce_2_211 (by decide) ?_
              have hpi : fdP w m (w 9 (60 * t + i)) = false := by clear C hκ hκl hS hB hB1 hB2 hB3 hB4 hB5 hB6 hC hw hX hs hT h81 h82 f1a f1b f1c f1d f1e f1f f1g f1h f1i f1j f1k f1l f2a f2b f2c f2d ih4 hme ih6 f8a f8b f8c f8d f8e f8f f8g f8h f8i f8j f8k f8l; unfold fdP; first | (simp_all; done) | grind
              refine z_sub [0, 1, 2, 3, 4] (lv' := [(0, .ref (σ 0 (0))), (1, .ref (σ 10 (t))), (2, .ref (σ 20 (m))), (3, .int (iI (bI (decide (w 1 (w 13 m) = 3))))), (5, .int (iI (((i : Int)) + 1)))]) rfl ?_
              refine z_as (lv' := [(0, .ref (σ 0 (0))), (1, .ref (σ 10 (t))), (2, .ref (σ 20 (m))), (3, .int (iI (bI (decide (w 1 (w 13 m) = 3))))), (5, .int (iI (((i + 1) : Int))))]) rfl rfl rfl ?_
              exact ih6 (i + 1) (by omega) (fun j hj => (Nat.lt_or_eq_of_le (Nat.le_of_lt_succ hj)).elim (hp j) (fun h => by rw [h]; exact hpi)) (by omega)
            · skip
              refine z_aload_n C 163 0 dX0_inForce_2_162 rfl rfl ?_
              refine z_aload C 165 5 dX0_inForce_2_163 rfl rfl ?_
              refine z_aload_n C 166 2 dX0_inForce_2_165 rfl rfl ?_
              refine z_callV (As := [.ref (σ 10 ((w 9 (60 * t + (i : Int))))), .ref (σ 20 (m))]) (rest := []) C hκ hκl 169 (k0_ownMethod hX hs hw hT ((w 9 (60 * t + (i : Int)))) (m) ⟨by omega, by omega⟩ (hX.ma hs (by omega) (by omega)) hUq) dX0_inForce_2_166 q754 q756 qs5 q90 q757 znX0_ownMethod (Nat.le_of_ble_eq_true rfl) (Nat.le_of_ble_eq_true rfl) (Nat.le_of_ble_eq_true rfl) (Nat.le_of_ble_eq_true rfl) (zrec_P hX.o) rfl rfl (Nat.le_of_ble_eq_true rfl) rfl (fun v9 Q9 h9 => ?_)
              obtain ⟨rfl, rfl⟩ := h9
              refine z_as (st' := [va_rf (xo σ 20 (olI w ((w 9 (60 * t + (i : Int)))) (m)))]) rfl rfl rfl ?_
              have r10 := olI_r (w := w) (t := (w 9 (60 * t + (i : Int)))) (m := m) (by omega)
              refine z_goto C 173 dX0_inForce_2_169 (by decide) ?_
              refine z_astoreq (lv' := [(0, .ref (σ 0 (0))), (1, .ref (σ 10 (t))), (2, .ref (σ 20 (m))), (3, .int (iI (bI (decide (w 1 (w 13 m) = 3))))), (5, .int (iI ((i : Int)))), (6, .ref (σ 10 ((w 9 (60 * t + (i : Int)))))), (7, va_rf (xo σ 20 (olI w ((w 9 (60 * t + (i : Int)))) (m))))]) C 175 [1, 2, 3, 4, 5, 6, 0] dX0_inForce_2_173 (by decide) rfl rfl ?_
              refine z_aloadq C 177 6 dX0_inForce_2_175 rfl rfl ?_
              rcases Int.lt_or_le (olI w ((w 9 (60 * t + (i : Int)))) (m)) 0 with n11 | n11
              · skip
                rw [xo_n n11]
                refine z_as (st' := [.null]) (lv' := [(0, .ref (σ 0 (0))), (1, .ref (σ 10 (t))), (2, .ref (σ 20 (m))), (3, .int (iI (bI (decide (w 1 (w 13 m) = 3))))), (5, .int (iI ((i : Int)))), (6, .ref (σ 10 ((w 9 (60 * t + (i : Int)))))), (7, .null)]) rfl rfl rfl ?_
                refine z_ifnullN C 208 dX0_inForce_2_177 (by decide) ?_
                refine z_iinc (lv' := [(0, .ref (σ 0 (0))), (1, .ref (σ 10 (t))), (2, .ref (σ 20 (m))), (3, .int (iI (bI (decide (w 1 (w 13 m) = 3))))), (5, .int (iI (((i : Int)) + 1))), (6, .ref (σ 10 ((w 9 (60 * t + (i : Int)))))), (7, .null)]) C 211 4 [1, 2, 3, 4, 0, 5, 6] dX0_inForce_2_208 rfl (by decide) rfl rfl ?_
                refine z_goto C 135 dX0_inForce_2_211 (by decide) ?_
                have hpi : fdP w m (w 9 (60 * t + i)) = false := by clear C hκ hκl hS hB hB1 hB2 hB3 hB4 hB5 hB6 hC hw hX hs hT h81 h82 f1a f1b f1c f1d f1e f1f f1g f1h f1i f1j f1k f1l f2a f2b f2c f2d ih4 hme ih6 f8a f8b f8c f8d f8e f8f f8g f8h f8i f8j f8k f8l; unfold fdP; first | (simp_all; done) | grind
                refine z_sub [0, 1, 2, 3, 4] (lv' := [(0, .ref (σ 0 (0))), (1, .ref (σ 10 (t))), (2, .ref (σ 20 (m))), (3, .int (iI (bI (decide (w 1 (w 13 m) = 3))))), (5, .int (iI (((i : Int)) + 1)))]) rfl ?_
                refine z_as (lv' := [(0, .ref (σ 0 (0))), (1, .ref (σ 10 (t))), (2, .ref (σ 20 (m))), (3, .int (iI (bI (decide (w 1 (w 13 m) = 3))))), (5, .int (iI (((i + 1) : Int))))]) rfl rfl rfl ?_
                exact ih6 (i + 1) (by omega) (fun j hj => (Nat.lt_or_eq_of_le (Nat.le_of_lt_succ hj)).elim (hp j) (fun h => by rw [h]; exact hpi)) (by omega)
              · skip
                rw [xo_y n11]
                refine z_as (st' := [.ref (σ 20 (olI w ((w 9 (60 * t + (i : Int)))) (m)))]) (lv' := [(0, .ref (σ 0 (0))), (1, .ref (σ 10 (t))), (2, .ref (σ 20 (m))), (3, .int (iI (bI (decide (w 1 (w 13 m) = 3))))), (5, .int (iI ((i : Int)))), (6, .ref (σ 10 ((w 9 (60 * t + (i : Int)))))), (7, .ref (σ 20 (olI w ((w 9 (60 * t + (i : Int)))) (m))))]) rfl rfl rfl ?_
                refine z_ifnull C 180 dX0_inForce_2_177 rfl ?_
                refine z_aload C 182 6 dX0_inForce_2_180 rfl rfl ?_
                refine z_bipush C 184 dX0_inForce_2_182 (by decide) rfl ?_
                refine z_callV (As := [.int (iI (16))]) (rest := []) C hκ hκl 187 (k9_has hX hs hw hT (olI w ((w 9 (60 * t + (i : Int)))) (m)) (16) ⟨by decide, by decide⟩ ⟨by omega, by omega⟩) dX0_inForce_2_184 q711 q712 q713 q103 q714 znX9_has (Nat.le_of_ble_eq_true rfl) (Nat.le_of_ble_eq_true rfl) (Nat.le_of_ble_eq_true rfl) (Nat.le_of_ble_eq_true rfl) (zrec_P (hX.mem (by omega) (by omega))) rfl rfl (Nat.le_of_ble_eq_true rfl) rfl (fun v9 Q9 h9 => ?_)
                obtain ⟨rfl, rfl⟩ := h9
                refine z_as (st' := [.int (iI (bI (hasB w (olI w ((w 9 (60 * t + (i : Int)))) (m)) (16))))]) rfl rfl rfl ?_
                refine z_ifB_ne C 208 190 dX0_inForce_2_187 (by decide) rfl (fun c12 => ?_) (fun c12 => ?_)
                · skip
                  refine z_iinc (lv' := [(0, .ref (σ 0 (0))), (1, .ref (σ 10 (t))), (2, .ref (σ 20 (m))), (3, .int (iI (bI (decide (w 1 (w 13 m) = 3))))), (5, .int (iI (((i : Int)) + 1))), (6, .ref (σ 10 ((w 9 (60 * t + (i : Int)))))), (7, .ref (σ 20 (olI w ((w 9 (60 * t + (i : Int)))) (m))))]) C 211 4 [1, 2, 3, 4, 0, 5, 6] dX0_inForce_2_208 rfl (by decide) rfl rfl ?_
                  refine z_goto C 135 dX0_inForce_2_211 (by decide) ?_
                  have hpi : fdP w m (w 9 (60 * t + i)) = false := by clear C hκ hκl hS hB hB1 hB2 hB3 hB4 hB5 hB6 hC hw hX hs hT h81 h82 f1a f1b f1c f1d f1e f1f f1g f1h f1i f1j f1k f1l f2a f2b f2c f2d ih4 hme ih6 f8a f8b f8c f8d f8e f8f f8g f8h f8i f8j f8k f8l; unfold fdP; first | (simp_all; done) | grind
                  refine z_sub [0, 1, 2, 3, 4] (lv' := [(0, .ref (σ 0 (0))), (1, .ref (σ 10 (t))), (2, .ref (σ 20 (m))), (3, .int (iI (bI (decide (w 1 (w 13 m) = 3))))), (5, .int (iI (((i : Int)) + 1)))]) rfl ?_
                  refine z_as (lv' := [(0, .ref (σ 0 (0))), (1, .ref (σ 10 (t))), (2, .ref (σ 20 (m))), (3, .int (iI (bI (decide (w 1 (w 13 m) = 3))))), (5, .int (iI (((i + 1) : Int))))]) rfl rfl rfl ?_
                  exact ih6 (i + 1) (by omega) (fun j hj => (Nat.lt_or_eq_of_le (Nat.le_of_lt_succ hj)).elim (hp j) (fun h => by rw [h]; exact hpi)) (by omega)
                · skip
                  refine z_aload C 192 6 dX0_inForce_2_190 rfl rfl ?_
                  refine z_aload_n C 193 2 dX0_inForce_2_192 rfl rfl ?_
                  have c13i := xo_M hX (a := olI w ((w 9 (60 * t + (i : Int)))) (m)) (b := m) (by omega) (by omega) (by omega) (by omega)
                  refine z_acmp_eq C (xo σ 20 (olI w ((w 9 (60 * t + (i : Int)))) (m))) (xo σ 20 (m)) 205 196 dX0_inForce_2_193 (by decide) rfl (by rw [xo_y (by omega)]; rfl) (by rw [xo_y (by omega)]; rfl) (fun c13 => ?_) (fun c13 => ?_)
                  · skip
                    have c13b : olI w ((w 9 (60 * t + (i : Int)))) (m) = m := c13i.mp c13; clear c13i
                    refine z_aload C 207 6 dX0_inForce_2_205 rfl rfl ?_
                    exact z_aret C dX0_inForce_2_207 (Or.inl ⟨_, rfl⟩) (Or.inr ⟨_, rfl⟩) (Nat.le_of_ble_eq_true rfl) (Nat.le_of_ble_eq_true rfl) ⟨congrArg some (by have hpi : fdP w m (w 9 (60 * t + i)) = true := (by clear C hκ hκl hS hB hB1 hB2 hB3 hB4 hB5 hB6 hC hw hX hs hT h81 h82 f1a f1b f1c f1d f1e f1f f1g f1h f1i f1j f1k f1l f2a f2b f2c f2d ih4 hme ih6 f8a f8b f8c f8d f8e f8f f8g f8h f8i f8j f8k f8l; unfold fdP; first | (simp_all; done) | grind); have hK : fdK w t m = i := (by unfold fdK; exact firstN_at (by omega) hpi hp); unfold foI; rw [if_neg (by omega), hK, if_pos (by omega), xo_y (by omega)]; rfl), rfl⟩
                  · skip
                    have c13b : ¬ (olI w ((w 9 (60 * t + (i : Int)))) (m) = m) := fun h9 => c13 (c13i.mpr h9); clear c13i
                    refine z_aload C 198 6 dX0_inForce_2_196 rfl rfl ?_
                    refine z_aload_n C 199 2 dX0_inForce_2_198 rfl rfl ?_
                    refine z_callV (As := [.ref (σ 20 (m))]) (rest := []) C hκ hκl 202 (k9_overrides hX hs hw hT (olI w ((w 9 (60 * t + (i : Int)))) (m)) (m) ⟨by omega, by omega⟩ ⟨by omega, by omega⟩) dX0_inForce_2_199 q1212 q1213 q1214 q103 q1215 znX9_overrides (Nat.le_of_ble_eq_true rfl) (Nat.le_of_ble_eq_true rfl) (Nat.le_of_ble_eq_true rfl) (Nat.le_of_ble_eq_true rfl) (zrec_P (hX.mem (by omega) (by omega))) rfl rfl (Nat.le_of_ble_eq_true rfl) rfl (fun v9 Q9 h9 => ?_)
                    obtain ⟨rfl, rfl⟩ := h9
                    refine z_as (st' := [.int (iI (bI (ovB w (olI w ((w 9 (60 * t + (i : Int)))) (m)) (m))))]) rfl rfl rfl ?_
                    refine z_ifB_eq C 208 205 dX0_inForce_2_202 (by decide) rfl (fun c14 => ?_) (fun c14 => ?_)
                    · skip
                      refine z_iinc (lv' := [(0, .ref (σ 0 (0))), (1, .ref (σ 10 (t))), (2, .ref (σ 20 (m))), (3, .int (iI (bI (decide (w 1 (w 13 m) = 3))))), (5, .int (iI (((i : Int)) + 1))), (6, .ref (σ 10 ((w 9 (60 * t + (i : Int)))))), (7, .ref (σ 20 (olI w ((w 9 (60 * t + (i : Int)))) (m))))]) C 211 4 [1, 2, 3, 4, 0, 5, 6] dX0_inForce_2_208 rfl (by decide) rfl rfl ?_
                      refine z_goto C 135 dX0_inForce_2_211 (by decide) ?_
                      have hpi : fdP w m (w 9 (60 * t + i)) = false := by clear C hκ hκl hS hB hB1 hB2 hB3 hB4 hB5 hB6 hC hw hX hs hT h81 h82 f1a f1b f1c f1d f1e f1f f1g f1h f1i f1j f1k f1l f2a f2b f2c f2d ih4 hme ih6 f8a f8b f8c f8d f8e f8f f8g f8h f8i f8j f8k f8l; unfold fdP; first | (simp_all; done) | grind
                      refine z_sub [0, 1, 2, 3, 4] (lv' := [(0, .ref (σ 0 (0))), (1, .ref (σ 10 (t))), (2, .ref (σ 20 (m))), (3, .int (iI (bI (decide (w 1 (w 13 m) = 3))))), (5, .int (iI (((i : Int)) + 1)))]) rfl ?_
                      refine z_as (lv' := [(0, .ref (σ 0 (0))), (1, .ref (σ 10 (t))), (2, .ref (σ 20 (m))), (3, .int (iI (bI (decide (w 1 (w 13 m) = 3))))), (5, .int (iI (((i + 1) : Int))))]) rfl rfl rfl ?_
                      exact ih6 (i + 1) (by omega) (fun j hj => (Nat.lt_or_eq_of_le (Nat.le_of_lt_succ hj)).elim (hp j) (fun h => by rw [h]; exact hpi)) (by omega)
                    · skip
                      refine z_aload C 207 6 dX0_inForce_2_205 rfl rfl ?_
                      exact z_aret C dX0_inForce_2_207 (Or.inl ⟨_, rfl⟩) (Or.inr ⟨_, rfl⟩) (Nat.le_of_ble_eq_true rfl) (Nat.le_of_ble_eq_true rfl) ⟨congrArg some (by have hpi : fdP w m (w 9 (60 * t + i)) = true := (by clear C hκ hκl hS hB hB1 hB2 hB3 hB4 hB5 hB6 hC hw hX hs hT h81 h82 f1a f1b f1c f1d f1e f1f f1g f1h f1i f1j f1k f1l f2a f2b f2c f2d ih4 hme ih6 f8a f8b f8c f8d f8e f8f f8g f8h f8i f8j f8k f8l; unfold fdP; first | (simp_all; done) | grind); have hK : fdK w t m = i := (by unfold fdK; exact firstN_at (by omega) hpi hp); unfold foI; rw [if_neg (by omega), hK, if_pos (by omega), xo_y (by omega)]; rfl), rfl⟩
      refine z_as (lv' := [(0, .ref (σ 0 (0))), (1, .ref (σ 10 (t))), (2, .ref (σ 20 (m))), (3, .int (iI (bI (decide (w 1 (w 13 m) = 3))))), (5, .int (iI (((0) : Int))))]) rfl rfl rfl ?_
      exact L135_5 _ (0) (by omega) (fun j h => absurd h (Nat.not_lt_zero _)) (Nat.lt_succ_self _)
  have L20_15 : ∀ (fu : Nat)   (hme : 0 < fu), Z κ (zP θ M N) 0 0 20 [(0, .ref (σ 0 (0))), (1, .ref (σ 10 (t))), (2, .ref (σ 20 (m))), (3, .int (iI (bI (decide (w 1 (w 13 m) = 3))))), (4, .null)] [] := by
    intro fu
    induction fu with
    | zero => intro  hme; exact absurd hme (Nat.not_lt_zero _)
    | succ fu ih16 =>
      intro  hme
      refine z_aload_n C 21 1 dX0_inForce_2_20 rfl rfl ?_
      refine z_astore (lv' := [(0, .ref (σ 0 (0))), (1, .ref (σ 10 (t))), (2, .ref (σ 20 (m))), (3, .int (iI (bI (decide (w 1 (w 13 m) = 3))))), (4, .null), (5, .ref (σ 10 (t)))]) C 23 [1, 2, 3, 4, 5, 0] dX0_inForce_2_21 (by decide) rfl rfl ?_
      have L23_17 : ∀ (fu : Nat) (u : Int) (f : Nat) (z : Int) (hu : -1 ≤ u ∧ u < w 0 0) (hz : -1 ≤ z ∧ z < w 11 0) (hE : (z = -1 ∧ fsF w m f u = fsF w m 61 t ∧ u + 1 ≤ f) ∨ (0 ≤ z ∧ fsF w m 61 t = if hasB w z 16 then -1 else z)) (hme : (u + 1).toNat < fu), Z κ (zP θ M N) 0 0 23 [(0, .ref (σ 0 (0))), (1, .ref (σ 10 (t))), (2, .ref (σ 20 (m))), (3, .int (iI (bI (decide (w 1 (w 13 m) = 3))))), (4, va_rf (xo σ 20 (z))), (5, va_rf (xo σ 10 (u)))] [] := by
        intro fu
        induction fu with
        | zero => intro u f z hu hz hE hme; exact absurd hme (Nat.not_lt_zero _)
        | succ fu ih18 =>
          intro u f z hu hz hE hme
          refine z_aloadq C 25 5 dX0_inForce_2_23 rfl rfl ?_
          rcases Int.lt_or_le (u) 0 with n19 | n19
          · skip
            rw [xo_n n19]
            refine z_as (st' := [.null]) (lv' := [(0, .ref (σ 0 (0))), (1, .ref (σ 10 (t))), (2, .ref (σ 20 (m))), (3, .int (iI (bI (decide (w 1 (w 13 m) = 3))))), (4, va_rf (xo σ 20 (z))), (5, .null)]) rfl rfl rfl ?_
            refine z_ifnullN C 114 dX0_inForce_2_25 (by decide) ?_
            refine z_aloadq C 116 4 dX0_inForce_2_114 rfl rfl ?_
            rcases Int.lt_or_le (z) 0 with n20 | n20
            · skip
              rw [xo_n n20]
              refine z_as (st' := [.null]) (lv' := [(0, .ref (σ 0 (0))), (1, .ref (σ 10 (t))), (2, .ref (σ 20 (m))), (3, .int (iI (bI (decide (w 1 (w 13 m) = 3))))), (4, .null), (5, .null)]) rfl rfl rfl ?_
              refine z_ifnullN C 132 dX0_inForce_2_116 (by decide) ?_
              refine z_sub [0, 1, 2, 3] (lv' := [(0, .ref (σ 0 (0))), (1, .ref (σ 10 (t))), (2, .ref (σ 20 (m))), (3, .int (iI (bI (decide (w 1 (w 13 m) = 3)))))]) rfl ?_
              refine z_as (lv' := [(0, .ref (σ 0 (0))), (1, .ref (σ 10 (t))), (2, .ref (σ 20 (m))), (3, .int (iI (bI (decide (w 1 (w 13 m) = 3)))))]) rfl rfl rfl ?_
              exact L132_3 _  (by clear C hκ hκl hS hB hB1 hB2 hB3 hB4 hB5 hB6 hC hw hX hs hT h81 h82 f1a f1b f1c f1d f1e f1f f1g f1h f1i f1j f1k f1l f2a f2b f2c f2d L132_3 ih16 hme ih18; first | (rcases hE with ⟨a1, a2, a3⟩ | ⟨a1, a2⟩; (rw [← a2, show u = -1 by omega]; exact fsF_e); (first | omega | (rw [a2, if_pos (by assumption)])))) (Nat.lt_succ_self _)
            · skip
              rw [xo_y n20]
              refine z_as (st' := [.ref (σ 20 (z))]) (lv' := [(0, .ref (σ 0 (0))), (1, .ref (σ 10 (t))), (2, .ref (σ 20 (m))), (3, .int (iI (bI (decide (w 1 (w 13 m) = 3))))), (4, .ref (σ 20 (z))), (5, .null)]) rfl rfl rfl ?_
              refine z_ifnull C 119 dX0_inForce_2_116 rfl ?_
              refine z_aload C 121 4 dX0_inForce_2_119 rfl rfl ?_
              refine z_bipush C 123 dX0_inForce_2_121 (by decide) rfl ?_
              refine z_callV (As := [.int (iI (16))]) (rest := []) C hκ hκl 126 (k9_has hX hs hw hT (z) (16) ⟨by decide, by decide⟩ ⟨by omega, by omega⟩) dX0_inForce_2_123 q711 q712 q713 q103 q714 znX9_has (Nat.le_of_ble_eq_true rfl) (Nat.le_of_ble_eq_true rfl) (Nat.le_of_ble_eq_true rfl) (Nat.le_of_ble_eq_true rfl) (zrec_P (hX.mem (by omega) (by omega))) rfl rfl (Nat.le_of_ble_eq_true rfl) rfl (fun v9 Q9 h9 => ?_)
              obtain ⟨rfl, rfl⟩ := h9
              refine z_as (st' := [.int (iI (bI (hasB w (z) (16))))]) rfl rfl rfl ?_
              refine z_ifB_ne C 132 129 dX0_inForce_2_126 (by decide) rfl (fun c21 => ?_) (fun c21 => ?_)
              · skip
                refine z_sub [0, 1, 2, 3] (lv' := [(0, .ref (σ 0 (0))), (1, .ref (σ 10 (t))), (2, .ref (σ 20 (m))), (3, .int (iI (bI (decide (w 1 (w 13 m) = 3)))))]) rfl ?_
                refine z_as (lv' := [(0, .ref (σ 0 (0))), (1, .ref (σ 10 (t))), (2, .ref (σ 20 (m))), (3, .int (iI (bI (decide (w 1 (w 13 m) = 3)))))]) rfl rfl rfl ?_
                exact L132_3 _  (by clear C hκ hκl hS hB hB1 hB2 hB3 hB4 hB5 hB6 hC hw hX hs hT h81 h82 f1a f1b f1c f1d f1e f1f f1g f1h f1i f1j f1k f1l f2a f2b f2c f2d L132_3 ih16 hme ih18; first | (rcases hE with ⟨a1, a2, a3⟩ | ⟨a1, a2⟩; (rw [← a2, show u = -1 by omega]; exact fsF_e); (first | omega | (rw [a2, if_pos (by assumption)])))) (Nat.lt_succ_self _)
              · skip
                refine z_aload C 131 4 dX0_inForce_2_129 rfl rfl ?_
                exact z_aret C dX0_inForce_2_131 (Or.inl ⟨_, rfl⟩) (Or.inr ⟨_, rfl⟩) (Nat.le_of_ble_eq_true rfl) (Nat.le_of_ble_eq_true rfl) ⟨congrArg some (by rcases hE with ⟨a1, a2, a3⟩ | ⟨a1, a2⟩; (exact absurd a1 (by omega)); rw [if_neg (by simp_all)] at a2; unfold foI; rw [a2, if_pos (by omega), xo_y (by omega)]; rfl), rfl⟩
          · skip
            rw [xo_y n19]
            refine z_as (st' := [.ref (σ 10 (u))]) (lv' := [(0, .ref (σ 0 (0))), (1, .ref (σ 10 (t))), (2, .ref (σ 20 (m))), (3, .int (iI (bI (decide (w 1 (w 13 m) = 3))))), (4, va_rf (xo σ 20 (z))), (5, .ref (σ 10 (u)))]) rfl rfl rfl ?_
            refine z_ifnull C 28 dX0_inForce_2_25 rfl ?_
            refine z_aloadq C 30 4 dX0_inForce_2_28 rfl rfl ?_
            rcases Int.lt_or_le (z) 0 with n22 | n22
            · skip
              rw [xo_n n22]
              refine z_as (st' := [.null]) (lv' := [(0, .ref (σ 0 (0))), (1, .ref (σ 10 (t))), (2, .ref (σ 20 (m))), (3, .int (iI (bI (decide (w 1 (w 13 m) = 3))))), (4, .null), (5, .ref (σ 10 (u)))]) rfl rfl rfl ?_
              refine z_ifnonnullN C 33 dX0_inForce_2_30 rfl ?_
              have hF1 : fsF w m f u = fsF w m 61 t ∧ u + 1 ≤ f := by rcases hE with ⟨_, a2, a3⟩ | ⟨a1, _⟩; exact ⟨a2, a3⟩; omega
              obtain ⟨hF1, hF2⟩ := hF1
              refine z_aload_n C 34 0 dX0_inForce_2_33 rfl rfl ?_
              refine z_aload C 36 5 dX0_inForce_2_34 rfl rfl ?_
              refine z_aload_n C 37 2 dX0_inForce_2_36 rfl rfl ?_
              refine z_callV (As := [.ref (σ 10 (u)), .ref (σ 20 (m))]) (rest := []) C hκ hκl 40 (k0_ownMethod hX hs hw hT (u) (m) ⟨by omega, by omega⟩ (hX.ma hs (by omega) (by omega)) hUq) dX0_inForce_2_37 q754 q756 qs5 q90 q757 znX0_ownMethod (Nat.le_of_ble_eq_true rfl) (Nat.le_of_ble_eq_true rfl) (Nat.le_of_ble_eq_true rfl) (Nat.le_of_ble_eq_true rfl) (zrec_P hX.o) rfl rfl (Nat.le_of_ble_eq_true rfl) rfl (fun v9 Q9 h9 => ?_)
              obtain ⟨rfl, rfl⟩ := h9
              refine z_as (st' := [va_rf (xo σ 20 (olI w (u) (m)))]) rfl rfl rfl ?_
              have r23 := olI_r (w := w) (t := u) (m := m) (by omega)
              refine z_astoreq (lv' := [(0, .ref (σ 0 (0))), (1, .ref (σ 10 (t))), (2, .ref (σ 20 (m))), (3, .int (iI (bI (decide (w 1 (w 13 m) = 3))))), (4, .null), (5, .ref (σ 10 (u))), (6, va_rf (xo σ 20 (olI w (u) (m))))]) C 42 [1, 2, 3, 4, 5, 6, 0] dX0_inForce_2_40 (by decide) rfl rfl ?_
              refine z_aloadq C 44 6 dX0_inForce_2_42 rfl rfl ?_
              rcases Int.lt_or_le (olI w (u) (m)) 0 with n24 | n24
              · skip
                rw [xo_n n24]
                refine z_as (st' := [.null]) (lv' := [(0, .ref (σ 0 (0))), (1, .ref (σ 10 (t))), (2, .ref (σ 20 (m))), (3, .int (iI (bI (decide (w 1 (w 13 m) = 3))))), (4, .null), (5, .ref (σ 10 (u))), (6, .null)]) rfl rfl rfl ?_
                refine z_ifnullN C 88 dX0_inForce_2_44 (by decide) ?_
                refine z_iconst C 89 dX0_inForce_2_88 rfl ?_
                refine z_istore (lv' := [(0, .ref (σ 0 (0))), (1, .ref (σ 10 (t))), (2, .ref (σ 20 (m))), (3, .int (iI (bI (decide (w 1 (w 13 m) = 3))))), (4, .null), (5, .ref (σ 10 (u))), (6, .null), (7, .int (iI (0)))]) C 91 [1, 2, 3, 4, 5, 6, 7, 0] dX0_inForce_2_89 (by decide) rfl rfl ?_
                refine z_iload C 93 7 dX0_inForce_2_91 rfl rfl ?_
                refine z_if_eq C 101 96 dX0_inForce_2_93 (by decide) ⟨by decide, by decide⟩ rfl (fun c25 => ?_) (fun c25 => absurd c25 (by decide))
                refine z_null C 102 dX0_inForce_2_101 rfl ?_
                refine z_astoreN (lv' := [(0, .ref (σ 0 (0))), (1, .ref (σ 10 (t))), (2, .ref (σ 20 (m))), (3, .int (iI (bI (decide (w 1 (w 13 m) = 3))))), (4, .null), (5, .ref (σ 10 (u))), (6, .null), (7, .int (iI (0)))]) C 104 [1, 2, 3, 4, 0, 5, 6, 7] dX0_inForce_2_102 (by decide) rfl rfl ?_
                refine z_aload C 106 5 dX0_inForce_2_104 rfl rfl ?_
                obtain ⟨f26a, f26b, f26c, f26d, f26e, f26f, f26g, f26h⟩ := hS.T (show 0 ≤ u by omega) (by omega)
                obtain ⟨f26i, f26j, f26k, f26l⟩ := hs.ty (show 0 ≤ u by omega) (by omega)
                refine xv_parent (rest := []) C hκ hκl hX hs hw hT (u)   ⟨(by omega), (by omega)⟩  109 dX0_inForce_2_106 q520 (Nat.le_of_ble_eq_true rfl) (Nat.le_of_ble_eq_true rfl) (Nat.le_of_ble_eq_true rfl) (Nat.le_of_ble_eq_true rfl) (Nat.le_of_ble_eq_true rfl) rfl ?_
                refine z_as (st' := [va_rf (xo σ 10 (w 2 (u)))]) rfl rfl rfl ?_
                refine z_astoreq (lv' := [(0, .ref (σ 0 (0))), (1, .ref (σ 10 (t))), (2, .ref (σ 20 (m))), (3, .int (iI (bI (decide (w 1 (w 13 m) = 3))))), (4, .null), (5, va_rf (xo σ 10 (w 2 (u)))), (6, .null), (7, .int (iI (0)))]) C 111 [1, 2, 3, 4, 5, 0, 6, 7] dX0_inForce_2_109 (by decide) rfl rfl ?_
                refine z_goto C 23 dX0_inForce_2_111 (by decide) ?_
                have hno : olI w u m = -1 ∨ isK w m (olI w u m) = false := by clear C hκ hκl hS hB hB1 hB2 hB3 hB4 hB5 hB6 hC hw hX hs hT h81 h82 f1a f1b f1c f1d f1e f1f f1g f1h f1i f1j f1k f1l f2a f2b f2c f2d L132_3 ih16 hme ih18 f26a f26b f26c f26d f26e f26f f26g f26h f26i f26j f26k f26l; by_cases h9 : olI w u m = -1; exact Or.inl h9; right; unfold isK; first | (simp_all; done) | grind
                have hst := fsF_n (n := f) (by omega) hno (by omega)
                have hpu := (hS.T (show 0 ≤ u by omega) (by omega)).1
                refine z_as (lv' := [(0, .ref (σ 0 (0))), (1, .ref (σ 10 (t))), (2, .ref (σ 20 (m))), (3, .int (iI (bI (decide (w 1 (w 13 m) = 3))))), (4, va_rf (xo σ 20 (-1))), (5, va_rf (xo σ 10 (w 2 (u)))), (6, .null), (7, .int (iI (0)))]) rfl ((congrArg (fun z9 : Value => ([(0, .ref (σ 0 (0))), (1, .ref (σ 10 (t))), (2, .ref (σ 20 (m))), (3, .int (iI (bI (decide (w 1 (w 13 m) = 3))))), (4, z9), (5, va_rf (xo σ 10 (w 2 (u)))), (6, .null), (7, .int (iI (0)))] : List (Nat × Value))) (show .null = va_rf (xo σ 20 (-1)) from (by rw [xo_n (show -1 < 0 by omega)]; rfl)))) rfl ?_
                refine z_sub [0, 1, 2, 3, 4, 5] (lv' := [(0, .ref (σ 0 (0))), (1, .ref (σ 10 (t))), (2, .ref (σ 20 (m))), (3, .int (iI (bI (decide (w 1 (w 13 m) = 3))))), (4, va_rf (xo σ 20 (-1))), (5, va_rf (xo σ 10 (w 2 (u))))]) rfl ?_
                refine z_as (lv' := [(0, .ref (σ 0 (0))), (1, .ref (σ 10 (t))), (2, .ref (σ 20 (m))), (3, .int (iI (bI (decide (w 1 (w 13 m) = 3))))), (4, va_rf (xo σ 20 ((-1)))), (5, va_rf (xo σ 10 ((w 2 u))))]) rfl rfl rfl ?_
                exact ih18 (w 2 u) (f - 1) (-1) (by omega) (by omega) (Or.inl ⟨rfl, by rw [← hst]; exact hF1, by omega⟩) (by omega)
              · skip
                rw [xo_y n24]
                refine z_as (st' := [.ref (σ 20 (olI w (u) (m)))]) (lv' := [(0, .ref (σ 0 (0))), (1, .ref (σ 10 (t))), (2, .ref (σ 20 (m))), (3, .int (iI (bI (decide (w 1 (w 13 m) = 3))))), (4, .null), (5, .ref (σ 10 (u))), (6, .ref (σ 20 (olI w (u) (m))))]) rfl rfl rfl ?_
                refine z_ifnull C 47 dX0_inForce_2_44 rfl ?_
                refine z_aload C 49 6 dX0_inForce_2_47 rfl rfl ?_
                refine z_aload_n C 50 2 dX0_inForce_2_49 rfl rfl ?_
                have c27i := xo_M hX (a := olI w (u) (m)) (b := m) (by omega) (by omega) (by omega) (by omega)
                refine z_acmp_eq C (xo σ 20 (olI w (u) (m))) (xo σ 20 (m)) 84 53 dX0_inForce_2_50 (by decide) rfl (by rw [xo_y (by omega)]; rfl) (by rw [xo_y (by omega)]; rfl) (fun c27 => ?_) (fun c27 => ?_)
                · skip
                  have c27b : olI w (u) (m) = m := c27i.mp c27; clear c27i
                  refine z_iconst C 85 dX0_inForce_2_84 rfl ?_
                  refine z_goto C 89 dX0_inForce_2_85 (by decide) ?_
                  refine z_istore (lv' := [(0, .ref (σ 0 (0))), (1, .ref (σ 10 (t))), (2, .ref (σ 20 (m))), (3, .int (iI (bI (decide (w 1 (w 13 m) = 3))))), (4, .null), (5, .ref (σ 10 (u))), (6, .ref (σ 20 (olI w (u) (m)))), (7, .int (iI (1)))]) C 91 [1, 2, 3, 4, 5, 6, 7, 0] dX0_inForce_2_89 (by decide) rfl rfl ?_
                  refine z_iload C 93 7 dX0_inForce_2_91 rfl rfl ?_
                  refine z_if_eq C 101 96 dX0_inForce_2_93 (by decide) ⟨by decide, by decide⟩ rfl (fun c28 => absurd c28 (by decide)) (fun c28 => ?_)
                  refine z_aload C 98 6 dX0_inForce_2_96 rfl rfl ?_
                  refine z_goto C 102 dX0_inForce_2_98 (by decide) ?_
                  refine z_astore (lv' := [(0, .ref (σ 0 (0))), (1, .ref (σ 10 (t))), (2, .ref (σ 20 (m))), (3, .int (iI (bI (decide (w 1 (w 13 m) = 3))))), (4, .ref (σ 20 (olI w (u) (m)))), (5, .ref (σ 10 (u))), (6, .ref (σ 20 (olI w (u) (m)))), (7, .int (iI (1)))]) C 104 [1, 2, 3, 4, 0, 5, 6, 7] dX0_inForce_2_102 (by decide) rfl rfl ?_
                  refine z_aload C 106 5 dX0_inForce_2_104 rfl rfl ?_
                  obtain ⟨f29a, f29b, f29c, f29d, f29e, f29f, f29g, f29h⟩ := hS.T (show 0 ≤ u by omega) (by omega)
                  obtain ⟨f29i, f29j, f29k, f29l⟩ := hs.ty (show 0 ≤ u by omega) (by omega)
                  refine xv_parent (rest := []) C hκ hκl hX hs hw hT (u)   ⟨(by omega), (by omega)⟩  109 dX0_inForce_2_106 q520 (Nat.le_of_ble_eq_true rfl) (Nat.le_of_ble_eq_true rfl) (Nat.le_of_ble_eq_true rfl) (Nat.le_of_ble_eq_true rfl) (Nat.le_of_ble_eq_true rfl) rfl ?_
                  refine z_as (st' := [va_rf (xo σ 10 (w 2 (u)))]) rfl rfl rfl ?_
                  refine z_astoreq (lv' := [(0, .ref (σ 0 (0))), (1, .ref (σ 10 (t))), (2, .ref (σ 20 (m))), (3, .int (iI (bI (decide (w 1 (w 13 m) = 3))))), (4, .ref (σ 20 (olI w (u) (m)))), (5, va_rf (xo σ 10 (w 2 (u)))), (6, .ref (σ 20 (olI w (u) (m)))), (7, .int (iI (1)))]) C 111 [1, 2, 3, 4, 5, 0, 6, 7] dX0_inForce_2_109 (by decide) rfl rfl ?_
                  refine z_goto C 23 dX0_inForce_2_111 (by decide) ?_
                  have hk9 : isK w m (olI w u m) = true := by clear C hκ hκl hS hB hB1 hB2 hB3 hB4 hB5 hB6 hC hw hX hs hT h81 h82 f1a f1b f1c f1d f1e f1f f1g f1h f1i f1j f1k f1l f2a f2b f2c f2d L132_3 ih16 hme ih18 f29a f29b f29c f29d f29e f29f f29g f29h f29i f29j f29k f29l; unfold isK; first | (simp_all; done) | grind
                  have hst := fsF_y (n := f) (t := u) (m := m) (by omega) (show olI w u m ≠ -1 by omega) hk9 (by omega)
                  have hpu := (hS.T (show 0 ≤ u by omega) (by omega)).1
                  refine z_as (lv' := [(0, .ref (σ 0 (0))), (1, .ref (σ 10 (t))), (2, .ref (σ 20 (m))), (3, .int (iI (bI (decide (w 1 (w 13 m) = 3))))), (4, va_rf (xo σ 20 (olI w u m))), (5, va_rf (xo σ 10 (w 2 (u)))), (6, .ref (σ 20 (olI w (u) (m)))), (7, .int (iI (1)))]) rfl ((congrArg (fun z9 : Value => ([(0, .ref (σ 0 (0))), (1, .ref (σ 10 (t))), (2, .ref (σ 20 (m))), (3, .int (iI (bI (decide (w 1 (w 13 m) = 3))))), (4, z9), (5, va_rf (xo σ 10 (w 2 (u)))), (6, .ref (σ 20 (olI w (u) (m)))), (7, .int (iI (1)))] : List (Nat × Value))) (show .ref (σ 20 (olI w (u) (m))) = va_rf (xo σ 20 (olI w u m)) from (by rw [xo_y (show 0 ≤ olI w u m by omega)]; rfl)))) rfl ?_
                  refine z_sub [0, 1, 2, 3, 4, 5] (lv' := [(0, .ref (σ 0 (0))), (1, .ref (σ 10 (t))), (2, .ref (σ 20 (m))), (3, .int (iI (bI (decide (w 1 (w 13 m) = 3))))), (4, va_rf (xo σ 20 (olI w u m))), (5, va_rf (xo σ 10 (w 2 (u))))]) rfl ?_
                  refine z_as (lv' := [(0, .ref (σ 0 (0))), (1, .ref (σ 10 (t))), (2, .ref (σ 20 (m))), (3, .int (iI (bI (decide (w 1 (w 13 m) = 3))))), (4, va_rf (xo σ 20 ((olI w u m)))), (5, va_rf (xo σ 10 ((w 2 u))))]) rfl rfl rfl ?_
                  exact ih18 (w 2 u) (f - 1) (olI w u m) (by omega) (by omega) (Or.inr ⟨by omega, by rw [← hF1, hst]⟩) (by omega)
                · skip
                  have c27b : ¬ (olI w (u) (m) = m) := fun h9 => c27 (c27i.mpr h9); clear c27i
                  refine z_aload C 55 6 dX0_inForce_2_53 rfl rfl ?_
                  refine z_aload_n C 56 2 dX0_inForce_2_55 rfl rfl ?_
                  refine z_callV (As := [.ref (σ 20 (m))]) (rest := []) C hκ hκl 59 (k9_overrides hX hs hw hT (olI w (u) (m)) (m) ⟨by omega, by omega⟩ ⟨by omega, by omega⟩) dX0_inForce_2_56 q1212 q1213 q1214 q103 q1215 znX9_overrides (Nat.le_of_ble_eq_true rfl) (Nat.le_of_ble_eq_true rfl) (Nat.le_of_ble_eq_true rfl) (Nat.le_of_ble_eq_true rfl) (zrec_P (hX.mem (by omega) (by omega))) rfl rfl (Nat.le_of_ble_eq_true rfl) rfl (fun v9 Q9 h9 => ?_)
                  obtain ⟨rfl, rfl⟩ := h9
                  refine z_as (st' := [.int (iI (bI (ovB w (olI w (u) (m)) (m))))]) rfl rfl rfl ?_
                  refine z_ifB_ne C 84 62 dX0_inForce_2_59 (by decide) rfl (fun c30 => ?_) (fun c30 => ?_)
                  · skip
                    refine z_iconst C 85 dX0_inForce_2_84 rfl ?_
                    refine z_goto C 89 dX0_inForce_2_85 (by decide) ?_
                    refine z_istore (lv' := [(0, .ref (σ 0 (0))), (1, .ref (σ 10 (t))), (2, .ref (σ 20 (m))), (3, .int (iI (bI (decide (w 1 (w 13 m) = 3))))), (4, .null), (5, .ref (σ 10 (u))), (6, .ref (σ 20 (olI w (u) (m)))), (7, .int (iI (1)))]) C 91 [1, 2, 3, 4, 5, 6, 7, 0] dX0_inForce_2_89 (by decide) rfl rfl ?_
                    refine z_iload C 93 7 dX0_inForce_2_91 rfl rfl ?_
                    refine z_if_eq C 101 96 dX0_inForce_2_93 (by decide) ⟨by decide, by decide⟩ rfl (fun c31 => absurd c31 (by decide)) (fun c31 => ?_)
                    refine z_aload C 98 6 dX0_inForce_2_96 rfl rfl ?_
                    refine z_goto C 102 dX0_inForce_2_98 (by decide) ?_
                    refine z_astore (lv' := [(0, .ref (σ 0 (0))), (1, .ref (σ 10 (t))), (2, .ref (σ 20 (m))), (3, .int (iI (bI (decide (w 1 (w 13 m) = 3))))), (4, .ref (σ 20 (olI w (u) (m)))), (5, .ref (σ 10 (u))), (6, .ref (σ 20 (olI w (u) (m)))), (7, .int (iI (1)))]) C 104 [1, 2, 3, 4, 0, 5, 6, 7] dX0_inForce_2_102 (by decide) rfl rfl ?_
                    refine z_aload C 106 5 dX0_inForce_2_104 rfl rfl ?_
                    obtain ⟨f32a, f32b, f32c, f32d, f32e, f32f, f32g, f32h⟩ := hS.T (show 0 ≤ u by omega) (by omega)
                    obtain ⟨f32i, f32j, f32k, f32l⟩ := hs.ty (show 0 ≤ u by omega) (by omega)
                    refine xv_parent (rest := []) C hκ hκl hX hs hw hT (u)   ⟨(by omega), (by omega)⟩  109 dX0_inForce_2_106 q520 (Nat.le_of_ble_eq_true rfl) (Nat.le_of_ble_eq_true rfl) (Nat.le_of_ble_eq_true rfl) (Nat.le_of_ble_eq_true rfl) (Nat.le_of_ble_eq_true rfl) rfl ?_
                    refine z_as (st' := [va_rf (xo σ 10 (w 2 (u)))]) rfl rfl rfl ?_
                    refine z_astoreq (lv' := [(0, .ref (σ 0 (0))), (1, .ref (σ 10 (t))), (2, .ref (σ 20 (m))), (3, .int (iI (bI (decide (w 1 (w 13 m) = 3))))), (4, .ref (σ 20 (olI w (u) (m)))), (5, va_rf (xo σ 10 (w 2 (u)))), (6, .ref (σ 20 (olI w (u) (m)))), (7, .int (iI (1)))]) C 111 [1, 2, 3, 4, 5, 0, 6, 7] dX0_inForce_2_109 (by decide) rfl rfl ?_
                    refine z_goto C 23 dX0_inForce_2_111 (by decide) ?_
                    have hk9 : isK w m (olI w u m) = true := by clear C hκ hκl hS hB hB1 hB2 hB3 hB4 hB5 hB6 hC hw hX hs hT h81 h82 f1a f1b f1c f1d f1e f1f f1g f1h f1i f1j f1k f1l f2a f2b f2c f2d L132_3 ih16 hme ih18 f32a f32b f32c f32d f32e f32f f32g f32h f32i f32j f32k f32l; unfold isK; first | (simp_all; done) | grind
                    have hst := fsF_y (n := f) (t := u) (m := m) (by omega) (show olI w u m ≠ -1 by omega) hk9 (by omega)
                    have hpu := (hS.T (show 0 ≤ u by omega) (by omega)).1
                    refine z_as (lv' := [(0, .ref (σ 0 (0))), (1, .ref (σ 10 (t))), (2, .ref (σ 20 (m))), (3, .int (iI (bI (decide (w 1 (w 13 m) = 3))))), (4, va_rf (xo σ 20 (olI w u m))), (5, va_rf (xo σ 10 (w 2 (u)))), (6, .ref (σ 20 (olI w (u) (m)))), (7, .int (iI (1)))]) rfl ((congrArg (fun z9 : Value => ([(0, .ref (σ 0 (0))), (1, .ref (σ 10 (t))), (2, .ref (σ 20 (m))), (3, .int (iI (bI (decide (w 1 (w 13 m) = 3))))), (4, z9), (5, va_rf (xo σ 10 (w 2 (u)))), (6, .ref (σ 20 (olI w (u) (m)))), (7, .int (iI (1)))] : List (Nat × Value))) (show .ref (σ 20 (olI w (u) (m))) = va_rf (xo σ 20 (olI w u m)) from (by rw [xo_y (show 0 ≤ olI w u m by omega)]; rfl)))) rfl ?_
                    refine z_sub [0, 1, 2, 3, 4, 5] (lv' := [(0, .ref (σ 0 (0))), (1, .ref (σ 10 (t))), (2, .ref (σ 20 (m))), (3, .int (iI (bI (decide (w 1 (w 13 m) = 3))))), (4, va_rf (xo σ 20 (olI w u m))), (5, va_rf (xo σ 10 (w 2 (u))))]) rfl ?_
                    refine z_as (lv' := [(0, .ref (σ 0 (0))), (1, .ref (σ 10 (t))), (2, .ref (σ 20 (m))), (3, .int (iI (bI (decide (w 1 (w 13 m) = 3))))), (4, va_rf (xo σ 20 ((olI w u m)))), (5, va_rf (xo σ 10 ((w 2 u))))]) rfl rfl rfl ?_
                    exact ih18 (w 2 u) (f - 1) (olI w u m) (by omega) (by omega) (Or.inr ⟨by omega, by rw [← hF1, hst]⟩) (by omega)
                  · skip
                    refine z_iload_n C 63 3 dX0_inForce_2_62 rfl rfl ?_
                    refine z_ifB_eq C 88 66 dX0_inForce_2_63 (by decide) rfl (fun c33 => ?_) (fun c33 => ?_)
                    · skip
                      have c33b : ¬ ((w 1 (w 13 m) = 3)) := of_decide_eq_false c33
                      refine z_iconst C 89 dX0_inForce_2_88 rfl ?_
                      refine z_istore (lv' := [(0, .ref (σ 0 (0))), (1, .ref (σ 10 (t))), (2, .ref (σ 20 (m))), (3, .int (iI (bI (decide (w 1 (w 13 m) = 3))))), (4, .null), (5, .ref (σ 10 (u))), (6, .ref (σ 20 (olI w (u) (m)))), (7, .int (iI (0)))]) C 91 [1, 2, 3, 4, 5, 6, 7, 0] dX0_inForce_2_89 (by decide) rfl rfl ?_
                      refine z_iload C 93 7 dX0_inForce_2_91 rfl rfl ?_
                      refine z_if_eq C 101 96 dX0_inForce_2_93 (by decide) ⟨by decide, by decide⟩ rfl (fun c34 => ?_) (fun c34 => absurd c34 (by decide))
                      refine z_null C 102 dX0_inForce_2_101 rfl ?_
                      refine z_astoreN (lv' := [(0, .ref (σ 0 (0))), (1, .ref (σ 10 (t))), (2, .ref (σ 20 (m))), (3, .int (iI (bI (decide (w 1 (w 13 m) = 3))))), (4, .null), (5, .ref (σ 10 (u))), (6, .ref (σ 20 (olI w (u) (m)))), (7, .int (iI (0)))]) C 104 [1, 2, 3, 4, 0, 5, 6, 7] dX0_inForce_2_102 (by decide) rfl rfl ?_
                      refine z_aload C 106 5 dX0_inForce_2_104 rfl rfl ?_
                      obtain ⟨f35a, f35b, f35c, f35d, f35e, f35f, f35g, f35h⟩ := hS.T (show 0 ≤ u by omega) (by omega)
                      obtain ⟨f35i, f35j, f35k, f35l⟩ := hs.ty (show 0 ≤ u by omega) (by omega)
                      refine xv_parent (rest := []) C hκ hκl hX hs hw hT (u)   ⟨(by omega), (by omega)⟩  109 dX0_inForce_2_106 q520 (Nat.le_of_ble_eq_true rfl) (Nat.le_of_ble_eq_true rfl) (Nat.le_of_ble_eq_true rfl) (Nat.le_of_ble_eq_true rfl) (Nat.le_of_ble_eq_true rfl) rfl ?_
                      refine z_as (st' := [va_rf (xo σ 10 (w 2 (u)))]) rfl rfl rfl ?_
                      refine z_astoreq (lv' := [(0, .ref (σ 0 (0))), (1, .ref (σ 10 (t))), (2, .ref (σ 20 (m))), (3, .int (iI (bI (decide (w 1 (w 13 m) = 3))))), (4, .null), (5, va_rf (xo σ 10 (w 2 (u)))), (6, .ref (σ 20 (olI w (u) (m)))), (7, .int (iI (0)))]) C 111 [1, 2, 3, 4, 5, 0, 6, 7] dX0_inForce_2_109 (by decide) rfl rfl ?_
                      refine z_goto C 23 dX0_inForce_2_111 (by decide) ?_
                      have hno : olI w u m = -1 ∨ isK w m (olI w u m) = false := by clear C hκ hκl hS hB hB1 hB2 hB3 hB4 hB5 hB6 hC hw hX hs hT h81 h82 f1a f1b f1c f1d f1e f1f f1g f1h f1i f1j f1k f1l f2a f2b f2c f2d L132_3 ih16 hme ih18 f35a f35b f35c f35d f35e f35f f35g f35h f35i f35j f35k f35l; by_cases h9 : olI w u m = -1; exact Or.inl h9; right; unfold isK; first | (simp_all; done) | grind
                      have hst := fsF_n (n := f) (by omega) hno (by omega)
                      have hpu := (hS.T (show 0 ≤ u by omega) (by omega)).1
                      refine z_as (lv' := [(0, .ref (σ 0 (0))), (1, .ref (σ 10 (t))), (2, .ref (σ 20 (m))), (3, .int (iI (bI (decide (w 1 (w 13 m) = 3))))), (4, va_rf (xo σ 20 (-1))), (5, va_rf (xo σ 10 (w 2 (u)))), (6, .ref (σ 20 (olI w (u) (m)))), (7, .int (iI (0)))]) rfl ((congrArg (fun z9 : Value => ([(0, .ref (σ 0 (0))), (1, .ref (σ 10 (t))), (2, .ref (σ 20 (m))), (3, .int (iI (bI (decide (w 1 (w 13 m) = 3))))), (4, z9), (5, va_rf (xo σ 10 (w 2 (u)))), (6, .ref (σ 20 (olI w (u) (m)))), (7, .int (iI (0)))] : List (Nat × Value))) (show .null = va_rf (xo σ 20 (-1)) from (by rw [xo_n (show -1 < 0 by omega)]; rfl)))) rfl ?_
                      refine z_sub [0, 1, 2, 3, 4, 5] (lv' := [(0, .ref (σ 0 (0))), (1, .ref (σ 10 (t))), (2, .ref (σ 20 (m))), (3, .int (iI (bI (decide (w 1 (w 13 m) = 3))))), (4, va_rf (xo σ 20 (-1))), (5, va_rf (xo σ 10 (w 2 (u))))]) rfl ?_
                      refine z_as (lv' := [(0, .ref (σ 0 (0))), (1, .ref (σ 10 (t))), (2, .ref (σ 20 (m))), (3, .int (iI (bI (decide (w 1 (w 13 m) = 3))))), (4, va_rf (xo σ 20 ((-1)))), (5, va_rf (xo σ 10 ((w 2 u))))]) rfl rfl rfl ?_
                      exact ih18 (w 2 u) (f - 1) (-1) (by omega) (by omega) (Or.inl ⟨rfl, by rw [← hst]; exact hF1, by omega⟩) (by omega)
                    · skip
                      have c33b : ((w 1 (w 13 m) = 3)) := of_decide_eq_true c33
                      refine z_aload C 68 6 dX0_inForce_2_66 rfl rfl ?_
                      refine z_callV (As := []) (rest := []) C hκ hκl 71 (k9_who hX hs hw hT (olI w (u) (m)) ⟨by omega, by omega⟩) dX0_inForce_2_68 q1228 q955 q956 q103 q957 znX9_who (Nat.le_of_ble_eq_true rfl) (Nat.le_of_ble_eq_true rfl) (Nat.le_of_ble_eq_true rfl) (Nat.le_of_ble_eq_true rfl) (zrec_P (hX.mem (by omega) (by omega))) rfl rfl (Nat.le_of_ble_eq_true rfl) rfl (fun v9 Q9 h9 => ?_)
                      obtain ⟨rfl, rfl⟩ := h9
                      refine z_as (st' := [.int (iI (whoI w (olI w (u) (m))))]) rfl rfl rfl ?_
                      refine z_iconst C 72 dX0_inForce_2_71 rfl ?_
                      refine z_icmp_ne C 88 75 dX0_inForce_2_72 (by decide) (inR_zand _ _) ⟨by decide, by decide⟩ rfl (fun c36 => ?_) (fun c36 => ?_)
                      · skip
                        refine z_iconst C 89 dX0_inForce_2_88 rfl ?_
                        refine z_istore (lv' := [(0, .ref (σ 0 (0))), (1, .ref (σ 10 (t))), (2, .ref (σ 20 (m))), (3, .int (iI (bI (decide (w 1 (w 13 m) = 3))))), (4, .null), (5, .ref (σ 10 (u))), (6, .ref (σ 20 (olI w (u) (m)))), (7, .int (iI (0)))]) C 91 [1, 2, 3, 4, 5, 6, 7, 0] dX0_inForce_2_89 (by decide) rfl rfl ?_
                        refine z_iload C 93 7 dX0_inForce_2_91 rfl rfl ?_
                        refine z_if_eq C 101 96 dX0_inForce_2_93 (by decide) ⟨by decide, by decide⟩ rfl (fun c37 => ?_) (fun c37 => absurd c37 (by decide))
                        refine z_null C 102 dX0_inForce_2_101 rfl ?_
                        refine z_astoreN (lv' := [(0, .ref (σ 0 (0))), (1, .ref (σ 10 (t))), (2, .ref (σ 20 (m))), (3, .int (iI (bI (decide (w 1 (w 13 m) = 3))))), (4, .null), (5, .ref (σ 10 (u))), (6, .ref (σ 20 (olI w (u) (m)))), (7, .int (iI (0)))]) C 104 [1, 2, 3, 4, 0, 5, 6, 7] dX0_inForce_2_102 (by decide) rfl rfl ?_
                        refine z_aload C 106 5 dX0_inForce_2_104 rfl rfl ?_
                        obtain ⟨f38a, f38b, f38c, f38d, f38e, f38f, f38g, f38h⟩ := hS.T (show 0 ≤ u by omega) (by omega)
                        obtain ⟨f38i, f38j, f38k, f38l⟩ := hs.ty (show 0 ≤ u by omega) (by omega)
                        refine xv_parent (rest := []) C hκ hκl hX hs hw hT (u)   ⟨(by omega), (by omega)⟩  109 dX0_inForce_2_106 q520 (Nat.le_of_ble_eq_true rfl) (Nat.le_of_ble_eq_true rfl) (Nat.le_of_ble_eq_true rfl) (Nat.le_of_ble_eq_true rfl) (Nat.le_of_ble_eq_true rfl) rfl ?_
                        refine z_as (st' := [va_rf (xo σ 10 (w 2 (u)))]) rfl rfl rfl ?_
                        refine z_astoreq (lv' := [(0, .ref (σ 0 (0))), (1, .ref (σ 10 (t))), (2, .ref (σ 20 (m))), (3, .int (iI (bI (decide (w 1 (w 13 m) = 3))))), (4, .null), (5, va_rf (xo σ 10 (w 2 (u)))), (6, .ref (σ 20 (olI w (u) (m)))), (7, .int (iI (0)))]) C 111 [1, 2, 3, 4, 5, 0, 6, 7] dX0_inForce_2_109 (by decide) rfl rfl ?_
                        refine z_goto C 23 dX0_inForce_2_111 (by decide) ?_
                        have hno : olI w u m = -1 ∨ isK w m (olI w u m) = false := by clear C hκ hκl hS hB hB1 hB2 hB3 hB4 hB5 hB6 hC hw hX hs hT h81 h82 f1a f1b f1c f1d f1e f1f f1g f1h f1i f1j f1k f1l f2a f2b f2c f2d L132_3 ih16 hme ih18 f38a f38b f38c f38d f38e f38f f38g f38h f38i f38j f38k f38l; by_cases h9 : olI w u m = -1; exact Or.inl h9; right; unfold isK; first | (simp_all; done) | grind
                        have hst := fsF_n (n := f) (by omega) hno (by omega)
                        have hpu := (hS.T (show 0 ≤ u by omega) (by omega)).1
                        refine z_as (lv' := [(0, .ref (σ 0 (0))), (1, .ref (σ 10 (t))), (2, .ref (σ 20 (m))), (3, .int (iI (bI (decide (w 1 (w 13 m) = 3))))), (4, va_rf (xo σ 20 (-1))), (5, va_rf (xo σ 10 (w 2 (u)))), (6, .ref (σ 20 (olI w (u) (m)))), (7, .int (iI (0)))]) rfl ((congrArg (fun z9 : Value => ([(0, .ref (σ 0 (0))), (1, .ref (σ 10 (t))), (2, .ref (σ 20 (m))), (3, .int (iI (bI (decide (w 1 (w 13 m) = 3))))), (4, z9), (5, va_rf (xo σ 10 (w 2 (u)))), (6, .ref (σ 20 (olI w (u) (m)))), (7, .int (iI (0)))] : List (Nat × Value))) (show .null = va_rf (xo σ 20 (-1)) from (by rw [xo_n (show -1 < 0 by omega)]; rfl)))) rfl ?_
                        refine z_sub [0, 1, 2, 3, 4, 5] (lv' := [(0, .ref (σ 0 (0))), (1, .ref (σ 10 (t))), (2, .ref (σ 20 (m))), (3, .int (iI (bI (decide (w 1 (w 13 m) = 3))))), (4, va_rf (xo σ 20 (-1))), (5, va_rf (xo σ 10 (w 2 (u))))]) rfl ?_
                        refine z_as (lv' := [(0, .ref (σ 0 (0))), (1, .ref (σ 10 (t))), (2, .ref (σ 20 (m))), (3, .int (iI (bI (decide (w 1 (w 13 m) = 3))))), (4, va_rf (xo σ 20 ((-1)))), (5, va_rf (xo σ 10 ((w 2 u))))]) rfl rfl rfl ?_
                        exact ih18 (w 2 u) (f - 1) (-1) (by omega) (by omega) (Or.inl ⟨rfl, by rw [← hst]; exact hF1, by omega⟩) (by omega)
                      · skip
                        refine z_aload C 77 6 dX0_inForce_2_75 rfl rfl ?_
                        refine z_iconst C 78 dX0_inForce_2_77 rfl ?_
                        refine z_callV (As := [.int (iI (4))]) (rest := []) C hκ hκl 81 (k9_has hX hs hw hT (olI w (u) (m)) (4) ⟨by decide, by decide⟩ ⟨by omega, by omega⟩) dX0_inForce_2_78 q711 q712 q713 q103 q714 znX9_has (Nat.le_of_ble_eq_true rfl) (Nat.le_of_ble_eq_true rfl) (Nat.le_of_ble_eq_true rfl) (Nat.le_of_ble_eq_true rfl) (zrec_P (hX.mem (by omega) (by omega))) rfl rfl (Nat.le_of_ble_eq_true rfl) rfl (fun v9 Q9 h9 => ?_)
                        obtain ⟨rfl, rfl⟩ := h9
                        refine z_as (st' := [.int (iI (bI (hasB w (olI w (u) (m)) (4))))]) rfl rfl rfl ?_
                        refine z_ifB_ne C 88 84 dX0_inForce_2_81 (by decide) rfl (fun c39 => ?_) (fun c39 => ?_)
                        · skip
                          refine z_iconst C 89 dX0_inForce_2_88 rfl ?_
                          refine z_istore (lv' := [(0, .ref (σ 0 (0))), (1, .ref (σ 10 (t))), (2, .ref (σ 20 (m))), (3, .int (iI (bI (decide (w 1 (w 13 m) = 3))))), (4, .null), (5, .ref (σ 10 (u))), (6, .ref (σ 20 (olI w (u) (m)))), (7, .int (iI (0)))]) C 91 [1, 2, 3, 4, 5, 6, 7, 0] dX0_inForce_2_89 (by decide) rfl rfl ?_
                          refine z_iload C 93 7 dX0_inForce_2_91 rfl rfl ?_
                          refine z_if_eq C 101 96 dX0_inForce_2_93 (by decide) ⟨by decide, by decide⟩ rfl (fun c40 => ?_) (fun c40 => absurd c40 (by decide))
                          refine z_null C 102 dX0_inForce_2_101 rfl ?_
                          refine z_astoreN (lv' := [(0, .ref (σ 0 (0))), (1, .ref (σ 10 (t))), (2, .ref (σ 20 (m))), (3, .int (iI (bI (decide (w 1 (w 13 m) = 3))))), (4, .null), (5, .ref (σ 10 (u))), (6, .ref (σ 20 (olI w (u) (m)))), (7, .int (iI (0)))]) C 104 [1, 2, 3, 4, 0, 5, 6, 7] dX0_inForce_2_102 (by decide) rfl rfl ?_
                          refine z_aload C 106 5 dX0_inForce_2_104 rfl rfl ?_
                          obtain ⟨f41a, f41b, f41c, f41d, f41e, f41f, f41g, f41h⟩ := hS.T (show 0 ≤ u by omega) (by omega)
                          obtain ⟨f41i, f41j, f41k, f41l⟩ := hs.ty (show 0 ≤ u by omega) (by omega)
                          refine xv_parent (rest := []) C hκ hκl hX hs hw hT (u)   ⟨(by omega), (by omega)⟩  109 dX0_inForce_2_106 q520 (Nat.le_of_ble_eq_true rfl) (Nat.le_of_ble_eq_true rfl) (Nat.le_of_ble_eq_true rfl) (Nat.le_of_ble_eq_true rfl) (Nat.le_of_ble_eq_true rfl) rfl ?_
                          refine z_as (st' := [va_rf (xo σ 10 (w 2 (u)))]) rfl rfl rfl ?_
                          refine z_astoreq (lv' := [(0, .ref (σ 0 (0))), (1, .ref (σ 10 (t))), (2, .ref (σ 20 (m))), (3, .int (iI (bI (decide (w 1 (w 13 m) = 3))))), (4, .null), (5, va_rf (xo σ 10 (w 2 (u)))), (6, .ref (σ 20 (olI w (u) (m)))), (7, .int (iI (0)))]) C 111 [1, 2, 3, 4, 5, 0, 6, 7] dX0_inForce_2_109 (by decide) rfl rfl ?_
                          refine z_goto C 23 dX0_inForce_2_111 (by decide) ?_
                          have hno : olI w u m = -1 ∨ isK w m (olI w u m) = false := by clear C hκ hκl hS hB hB1 hB2 hB3 hB4 hB5 hB6 hC hw hX hs hT h81 h82 f1a f1b f1c f1d f1e f1f f1g f1h f1i f1j f1k f1l f2a f2b f2c f2d L132_3 ih16 hme ih18 f41a f41b f41c f41d f41e f41f f41g f41h f41i f41j f41k f41l; by_cases h9 : olI w u m = -1; exact Or.inl h9; right; unfold isK; first | (simp_all; done) | grind
                          have hst := fsF_n (n := f) (by omega) hno (by omega)
                          have hpu := (hS.T (show 0 ≤ u by omega) (by omega)).1
                          refine z_as (lv' := [(0, .ref (σ 0 (0))), (1, .ref (σ 10 (t))), (2, .ref (σ 20 (m))), (3, .int (iI (bI (decide (w 1 (w 13 m) = 3))))), (4, va_rf (xo σ 20 (-1))), (5, va_rf (xo σ 10 (w 2 (u)))), (6, .ref (σ 20 (olI w (u) (m)))), (7, .int (iI (0)))]) rfl ((congrArg (fun z9 : Value => ([(0, .ref (σ 0 (0))), (1, .ref (σ 10 (t))), (2, .ref (σ 20 (m))), (3, .int (iI (bI (decide (w 1 (w 13 m) = 3))))), (4, z9), (5, va_rf (xo σ 10 (w 2 (u)))), (6, .ref (σ 20 (olI w (u) (m)))), (7, .int (iI (0)))] : List (Nat × Value))) (show .null = va_rf (xo σ 20 (-1)) from (by rw [xo_n (show -1 < 0 by omega)]; rfl)))) rfl ?_
                          refine z_sub [0, 1, 2, 3, 4, 5] (lv' := [(0, .ref (σ 0 (0))), (1, .ref (σ 10 (t))), (2, .ref (σ 20 (m))), (3, .int (iI (bI (decide (w 1 (w 13 m) = 3))))), (4, va_rf (xo σ 20 (-1))), (5, va_rf (xo σ 10 (w 2 (u))))]) rfl ?_
                          refine z_as (lv' := [(0, .ref (σ 0 (0))), (1, .ref (σ 10 (t))), (2, .ref (σ 20 (m))), (3, .int (iI (bI (decide (w 1 (w 13 m) = 3))))), (4, va_rf (xo σ 20 ((-1)))), (5, va_rf (xo σ 10 ((w 2 u))))]) rfl rfl rfl ?_
                          exact ih18 (w 2 u) (f - 1) (-1) (by omega) (by omega) (Or.inl ⟨rfl, by rw [← hst]; exact hF1, by omega⟩) (by omega)
                        · skip
                          refine z_iconst C 85 dX0_inForce_2_84 rfl ?_
                          refine z_goto C 89 dX0_inForce_2_85 (by decide) ?_
                          refine z_istore (lv' := [(0, .ref (σ 0 (0))), (1, .ref (σ 10 (t))), (2, .ref (σ 20 (m))), (3, .int (iI (bI (decide (w 1 (w 13 m) = 3))))), (4, .null), (5, .ref (σ 10 (u))), (6, .ref (σ 20 (olI w (u) (m)))), (7, .int (iI (1)))]) C 91 [1, 2, 3, 4, 5, 6, 7, 0] dX0_inForce_2_89 (by decide) rfl rfl ?_
                          refine z_iload C 93 7 dX0_inForce_2_91 rfl rfl ?_
                          refine z_if_eq C 101 96 dX0_inForce_2_93 (by decide) ⟨by decide, by decide⟩ rfl (fun c42 => absurd c42 (by decide)) (fun c42 => ?_)
                          refine z_aload C 98 6 dX0_inForce_2_96 rfl rfl ?_
                          refine z_goto C 102 dX0_inForce_2_98 (by decide) ?_
                          refine z_astore (lv' := [(0, .ref (σ 0 (0))), (1, .ref (σ 10 (t))), (2, .ref (σ 20 (m))), (3, .int (iI (bI (decide (w 1 (w 13 m) = 3))))), (4, .ref (σ 20 (olI w (u) (m)))), (5, .ref (σ 10 (u))), (6, .ref (σ 20 (olI w (u) (m)))), (7, .int (iI (1)))]) C 104 [1, 2, 3, 4, 0, 5, 6, 7] dX0_inForce_2_102 (by decide) rfl rfl ?_
                          refine z_aload C 106 5 dX0_inForce_2_104 rfl rfl ?_
                          obtain ⟨f43a, f43b, f43c, f43d, f43e, f43f, f43g, f43h⟩ := hS.T (show 0 ≤ u by omega) (by omega)
                          obtain ⟨f43i, f43j, f43k, f43l⟩ := hs.ty (show 0 ≤ u by omega) (by omega)
                          refine xv_parent (rest := []) C hκ hκl hX hs hw hT (u)   ⟨(by omega), (by omega)⟩  109 dX0_inForce_2_106 q520 (Nat.le_of_ble_eq_true rfl) (Nat.le_of_ble_eq_true rfl) (Nat.le_of_ble_eq_true rfl) (Nat.le_of_ble_eq_true rfl) (Nat.le_of_ble_eq_true rfl) rfl ?_
                          refine z_as (st' := [va_rf (xo σ 10 (w 2 (u)))]) rfl rfl rfl ?_
                          refine z_astoreq (lv' := [(0, .ref (σ 0 (0))), (1, .ref (σ 10 (t))), (2, .ref (σ 20 (m))), (3, .int (iI (bI (decide (w 1 (w 13 m) = 3))))), (4, .ref (σ 20 (olI w (u) (m)))), (5, va_rf (xo σ 10 (w 2 (u)))), (6, .ref (σ 20 (olI w (u) (m)))), (7, .int (iI (1)))]) C 111 [1, 2, 3, 4, 5, 0, 6, 7] dX0_inForce_2_109 (by decide) rfl rfl ?_
                          refine z_goto C 23 dX0_inForce_2_111 (by decide) ?_
                          have hk9 : isK w m (olI w u m) = true := by clear C hκ hκl hS hB hB1 hB2 hB3 hB4 hB5 hB6 hC hw hX hs hT h81 h82 f1a f1b f1c f1d f1e f1f f1g f1h f1i f1j f1k f1l f2a f2b f2c f2d L132_3 ih16 hme ih18 f43a f43b f43c f43d f43e f43f f43g f43h f43i f43j f43k f43l; unfold isK; first | (simp_all; done) | grind
                          have hst := fsF_y (n := f) (t := u) (m := m) (by omega) (show olI w u m ≠ -1 by omega) hk9 (by omega)
                          have hpu := (hS.T (show 0 ≤ u by omega) (by omega)).1
                          refine z_as (lv' := [(0, .ref (σ 0 (0))), (1, .ref (σ 10 (t))), (2, .ref (σ 20 (m))), (3, .int (iI (bI (decide (w 1 (w 13 m) = 3))))), (4, va_rf (xo σ 20 (olI w u m))), (5, va_rf (xo σ 10 (w 2 (u)))), (6, .ref (σ 20 (olI w (u) (m)))), (7, .int (iI (1)))]) rfl ((congrArg (fun z9 : Value => ([(0, .ref (σ 0 (0))), (1, .ref (σ 10 (t))), (2, .ref (σ 20 (m))), (3, .int (iI (bI (decide (w 1 (w 13 m) = 3))))), (4, z9), (5, va_rf (xo σ 10 (w 2 (u)))), (6, .ref (σ 20 (olI w (u) (m)))), (7, .int (iI (1)))] : List (Nat × Value))) (show .ref (σ 20 (olI w (u) (m))) = va_rf (xo σ 20 (olI w u m)) from (by rw [xo_y (show 0 ≤ olI w u m by omega)]; rfl)))) rfl ?_
                          refine z_sub [0, 1, 2, 3, 4, 5] (lv' := [(0, .ref (σ 0 (0))), (1, .ref (σ 10 (t))), (2, .ref (σ 20 (m))), (3, .int (iI (bI (decide (w 1 (w 13 m) = 3))))), (4, va_rf (xo σ 20 (olI w u m))), (5, va_rf (xo σ 10 (w 2 (u))))]) rfl ?_
                          refine z_as (lv' := [(0, .ref (σ 0 (0))), (1, .ref (σ 10 (t))), (2, .ref (σ 20 (m))), (3, .int (iI (bI (decide (w 1 (w 13 m) = 3))))), (4, va_rf (xo σ 20 ((olI w u m)))), (5, va_rf (xo σ 10 ((w 2 u))))]) rfl rfl rfl ?_
                          exact ih18 (w 2 u) (f - 1) (olI w u m) (by omega) (by omega) (Or.inr ⟨by omega, by rw [← hF1, hst]⟩) (by omega)
            · skip
              rw [xo_y n22]
              refine z_as (st' := [.ref (σ 20 (z))]) (lv' := [(0, .ref (σ 0 (0))), (1, .ref (σ 10 (t))), (2, .ref (σ 20 (m))), (3, .int (iI (bI (decide (w 1 (w 13 m) = 3))))), (4, .ref (σ 20 (z))), (5, .ref (σ 10 (u)))]) rfl rfl rfl ?_
              refine z_ifnonnull C 114 dX0_inForce_2_30 (by decide) ?_
              refine z_aload C 116 4 dX0_inForce_2_114 rfl rfl ?_
              refine z_ifnull C 119 dX0_inForce_2_116 rfl ?_
              refine z_aload C 121 4 dX0_inForce_2_119 rfl rfl ?_
              refine z_bipush C 123 dX0_inForce_2_121 (by decide) rfl ?_
              refine z_callV (As := [.int (iI (16))]) (rest := []) C hκ hκl 126 (k9_has hX hs hw hT (z) (16) ⟨by decide, by decide⟩ ⟨by omega, by omega⟩) dX0_inForce_2_123 q711 q712 q713 q103 q714 znX9_has (Nat.le_of_ble_eq_true rfl) (Nat.le_of_ble_eq_true rfl) (Nat.le_of_ble_eq_true rfl) (Nat.le_of_ble_eq_true rfl) (zrec_P (hX.mem (by omega) (by omega))) rfl rfl (Nat.le_of_ble_eq_true rfl) rfl (fun v9 Q9 h9 => ?_)
              obtain ⟨rfl, rfl⟩ := h9
              refine z_as (st' := [.int (iI (bI (hasB w (z) (16))))]) rfl rfl rfl ?_
              refine z_ifB_ne C 132 129 dX0_inForce_2_126 (by decide) rfl (fun c44 => ?_) (fun c44 => ?_)
              · skip
                refine z_sub [0, 1, 2, 3] (lv' := [(0, .ref (σ 0 (0))), (1, .ref (σ 10 (t))), (2, .ref (σ 20 (m))), (3, .int (iI (bI (decide (w 1 (w 13 m) = 3)))))]) rfl ?_
                refine z_as (lv' := [(0, .ref (σ 0 (0))), (1, .ref (σ 10 (t))), (2, .ref (σ 20 (m))), (3, .int (iI (bI (decide (w 1 (w 13 m) = 3)))))]) rfl rfl rfl ?_
                exact L132_3 _  (by clear C hκ hκl hS hB hB1 hB2 hB3 hB4 hB5 hB6 hC hw hX hs hT h81 h82 f1a f1b f1c f1d f1e f1f f1g f1h f1i f1j f1k f1l f2a f2b f2c f2d L132_3 ih16 hme ih18; first | (rcases hE with ⟨a1, a2, a3⟩ | ⟨a1, a2⟩; (rw [← a2, show u = -1 by omega]; exact fsF_e); (first | omega | (rw [a2, if_pos (by assumption)])))) (Nat.lt_succ_self _)
              · skip
                refine z_aload C 131 4 dX0_inForce_2_129 rfl rfl ?_
                exact z_aret C dX0_inForce_2_131 (Or.inl ⟨_, rfl⟩) (Or.inr ⟨_, rfl⟩) (Nat.le_of_ble_eq_true rfl) (Nat.le_of_ble_eq_true rfl) ⟨congrArg some (by rcases hE with ⟨a1, a2, a3⟩ | ⟨a1, a2⟩; (exact absurd a1 (by omega)); rw [if_neg (by simp_all)] at a2; unfold foI; rw [a2, if_pos (by omega), xo_y (by omega)]; rfl), rfl⟩
      refine z_as (lv' := [(0, .ref (σ 0 (0))), (1, .ref (σ 10 (t))), (2, .ref (σ 20 (m))), (3, .int (iI (bI (decide (w 1 (w 13 m) = 3))))), (4, va_rf (xo σ 20 (-1))), (5, va_rf (xo σ 10 (t)))]) rfl ((congrArg (fun z9 : Value => ([(0, .ref (σ 0 (0))), (1, .ref (σ 10 (t))), (2, .ref (σ 20 (m))), (3, .int (iI (bI (decide (w 1 (w 13 m) = 3))))), (4, z9), (5, .ref (σ 10 (t)))] : List (Nat × Value))) (show .null = va_rf (xo σ 20 (-1)) from (by rw [xo_n (show -1 < 0 by omega)]; rfl))).trans (congrArg (fun z9 : Value => ([(0, .ref (σ 0 (0))), (1, .ref (σ 10 (t))), (2, .ref (σ 20 (m))), (3, .int (iI (bI (decide (w 1 (w 13 m) = 3))))), (4, va_rf (xo σ 20 (-1))), (5, z9)] : List (Nat × Value))) (show .ref (σ 10 (t)) = va_rf (xo σ 10 (t)) from (by rw [xo_y (show 0 ≤ t by omega)]; rfl)))) rfl ?_
      refine z_as (lv' := [(0, .ref (σ 0 (0))), (1, .ref (σ 10 (t))), (2, .ref (σ 20 (m))), (3, .int (iI (bI (decide (w 1 (w 13 m) = 3))))), (4, va_rf (xo σ 20 ((-1)))), (5, va_rf (xo σ 10 ((t))))]) rfl rfl rfl ?_
      exact L23_17 _ (t) (61) (-1) (by omega) (by omega) (Or.inl ⟨rfl, rfl, by omega⟩) (Nat.lt_succ_self _)
  refine z_aload_n C 1 2 dX0_inForce_2_0 rfl rfl ?_
  refine z_getf C hκ (v := .ref (σ 10 (w 13 (m)))) 4 1 zk_X9 (hX.mem (by omega) (by omega)) (by decide) q657 (Or.inl rfl) rfl dX0_inForce_2_1 rfl ?_
  obtain ⟨f45a, f45b, f45c, f45d, f45e, f45f, f45g, f45h⟩ := hS.T (show 0 ≤ w 13 (m) by omega) (by omega)
  obtain ⟨f45i, f45j, f45k, f45l⟩ := hs.ty (show 0 ≤ w 13 (m) by omega) (by omega)
  refine xv_what (rest := []) C hκ hκl hX hs hw hT (w 13 (m))   ⟨(by omega), (by omega)⟩  7 dX0_inForce_2_4 q459 (Nat.le_of_ble_eq_true rfl) (Nat.le_of_ble_eq_true rfl) (Nat.le_of_ble_eq_true rfl) (Nat.le_of_ble_eq_true rfl) (Nat.le_of_ble_eq_true rfl) rfl ?_
  refine z_as (st' := [.int (iI (w 1 (w 13 (m))))]) rfl rfl rfl ?_
  refine z_iconst C 8 dX0_inForce_2_7 rfl ?_
  refine z_icmp_ne C 15 11 dX0_inForce_2_8 (by decide) (hw.r _ _ rfl) ⟨by decide, by decide⟩ rfl (fun c46 => ?_) (fun c46 => ?_)
  · skip
    refine z_iconst C 16 dX0_inForce_2_15 rfl ?_
    refine z_istore_n (lv' := [(0, .ref (σ 0 (0))), (1, .ref (σ 10 (t))), (2, .ref (σ 20 (m))), (3, .int (iI (0)))]) C 17 [1, 2, 3, 0] dX0_inForce_2_16 (by decide) rfl rfl ?_
    refine z_null C 18 dX0_inForce_2_17 rfl ?_
    refine z_astoreN (lv' := [(0, .ref (σ 0 (0))), (1, .ref (σ 10 (t))), (2, .ref (σ 20 (m))), (3, .int (iI (0))), (4, .null)]) C 20 [1, 2, 3, 4, 0] dX0_inForce_2_18 (by decide) rfl rfl ?_
    refine z_as (lv' := [(0, .ref (σ 0 (0))), (1, .ref (σ 10 (t))), (2, .ref (σ 20 (m))), (3, .int (iI (bI (decide (w 1 (w 13 m) = 3))))), (4, .null)]) rfl (congrArg (fun z9 => ([(0, .ref (σ 0 (0))), (1, .ref (σ 10 (t))), (2, .ref (σ 20 (m))), (3, .int (iI (bI (z9)))), (4, .null)] : List (Nat × Value))) (show (false) = (decide (w 1 (w 13 m) = 3)) from by clear C hκ hκl hS hB hB1 hB2 hB3 hB4 hB5 hB6 hC hw hX hs hT h81 h82 f1a f1b f1c f1d f1e f1f f1g f1h f1i f1j f1k f1l f2a f2b f2c f2d L132_3 L20_15 f45a f45b f45c f45d f45e f45f f45g f45h f45i f45j f45k f45l; simp_all)) rfl ?_
    exact L20_15 _   (Nat.lt_succ_self _)
  · skip
    refine z_iconst C 12 dX0_inForce_2_11 rfl ?_
    refine z_goto C 16 dX0_inForce_2_12 (by decide) ?_
    refine z_istore_n (lv' := [(0, .ref (σ 0 (0))), (1, .ref (σ 10 (t))), (2, .ref (σ 20 (m))), (3, .int (iI (1)))]) C 17 [1, 2, 3, 0] dX0_inForce_2_16 (by decide) rfl rfl ?_
    refine z_null C 18 dX0_inForce_2_17 rfl ?_
    refine z_astoreN (lv' := [(0, .ref (σ 0 (0))), (1, .ref (σ 10 (t))), (2, .ref (σ 20 (m))), (3, .int (iI (1))), (4, .null)]) C 20 [1, 2, 3, 4, 0] dX0_inForce_2_18 (by decide) rfl rfl ?_
    refine z_as (lv' := [(0, .ref (σ 0 (0))), (1, .ref (σ 10 (t))), (2, .ref (σ 20 (m))), (3, .int (iI (bI (decide (w 1 (w 13 m) = 3))))), (4, .null)]) rfl (congrArg (fun z9 => ([(0, .ref (σ 0 (0))), (1, .ref (σ 10 (t))), (2, .ref (σ 20 (m))), (3, .int (iI (bI (z9)))), (4, .null)] : List (Nat × Value))) (show (true) = (decide (w 1 (w 13 m) = 3)) from by clear C hκ hκl hS hB hB1 hB2 hB3 hB4 hB5 hB6 hC hw hX hs hT h81 h82 f1a f1b f1c f1d f1e f1f f1g f1h f1i f1j f1k f1l f2a f2b f2c f2d L132_3 L20_15 f45a f45b f45c f45d f45e f45f f45g f45h f45i f45j f45k f45l; simp_all)) rfl ?_
    exact L20_15 _   (Nat.lt_succ_self _)
set_option maxRecDepth 100000 in
theorem k0_inForce {l : Launch} {θ : zTh} {σ : xA} {w : mW} {M N : zMap} (hX : xM θ σ w (xL w) M) (hs : xS w) (hw : mWF w) (hT : zTb θ) (t : Int) (m : Int) (r_t : inR t) (r_m : inR m)  (hUq : xUq w) : ZM θ l yX0_inForce cX0_inForce 3 (some .int) ⟨249, 0, 0, 2579⟩ [.ref (σ 0 (0)), .int (iI (t)), .int (iI (m))] (zP θ M N) (zFn (some (.int (iI (ifI w t m)))) (zP θ M N)) := by
  refine z_start (own := RX0) (nm := "inForce") pnX0 rfl rfl (Nat.le_of_ble_eq_true rfl) ?_
  intro κ hκ hκl C
  change Z κ (zP θ M N) 0 0 0 [(0, .ref (σ 0 (0))), (1, .int (iI (t))), (2, .int (iI (m)))] []
  have hS := hs.S
  have hB := hS.B
  obtain ⟨hB1, hB2, hB3, hB4, hB5, hB6⟩ := hS.B
  have hC := hS.C
  obtain ⟨h81, h82⟩ := hs.r8
  refine z_aload_n C 1 0 dX0_inForce_0 rfl rfl ?_
  refine z_iload_n C 2 1 dX0_inForce_1 rfl rfl ?_
  refine z_callV (As := [.int (iI (t))]) (rest := []) C hκ hκl 5 (k0_isType hX hs hw hT (t) r_t) dX0_inForce_2 q374 q376 qs1 q90 q377 znX0_isType (Nat.le_of_ble_eq_true rfl) (Nat.le_of_ble_eq_true rfl) (Nat.le_of_ble_eq_true rfl) (Nat.le_of_ble_eq_true rfl) (zrec_P hX.o) rfl rfl (Nat.le_of_ble_eq_true rfl) rfl (fun v9 Q9 h9 => ?_)
  obtain ⟨rfl, rfl⟩ := h9
  refine z_as (st' := [.int (iI (bI (tyB w (t))))]) rfl rfl rfl ?_
  refine z_ifB_eq C 61 8 dX0_inForce_5 (by decide) rfl (fun c1 => ?_) (fun c1 => ?_)
  · skip
    have c1b : ¬ (0 ≤ (t) ∧ (t) < w 0 0) := of_decide_eq_false c1
    refine z_bipush C 63 dX0_inForce_61 (by decide) rfl ?_
    exact z_iret C dX0_inForce_63 rfl (Nat.le_of_ble_eq_true rfl) (Nat.le_of_ble_eq_true rfl) ⟨congrArg (fun z => some (Value.int (iI z))) (by clear C hκ hκl hS hB hB1 hB2 hB3 hB4 hB5 hB6 hC hw hX hs hT h81 h82; clear hUq; unfold ifI; first | (rw [if_neg]; first | (simp_all; done) | grind) | (rw [if_pos]; first | (simp_all; done) | (simp_all [clB]; done) | grind [clB])), rfl⟩
  · skip
    have c1b : (0 ≤ (t) ∧ (t) < w 0 0) := of_decide_eq_true c1
    refine z_aload_n C 9 0 dX0_inForce_8 rfl rfl ?_
    refine z_getf C hκ (v := .ref (σ 1 (0))) 12 0 zk_X0 hX.o (by decide) q325 (Or.inl rfl) rfl dX0_inForce_9 rfl ?_
    refine z_iload_n C 13 1 dX0_inForce_12 rfl rfl ?_
    refine x_aT C hκ 14 hX hs (by omega) (by omega) dX0_inForce_13 rfl ?_
    obtain ⟨f2a, f2b, f2c, f2d, f2e, f2f, f2g, f2h⟩ := hS.T (show 0 ≤ t by omega) (by omega)
    obtain ⟨f2i, f2j, f2k, f2l⟩ := hs.ty (show 0 ≤ t by omega) (by omega)
    refine xv_isClass (rest := []) C hκ hκl hX hs hw hT (t)   ⟨(by omega), (by omega)⟩  17 dX0_inForce_14 q381 (Nat.le_of_ble_eq_true rfl) (Nat.le_of_ble_eq_true rfl) (Nat.le_of_ble_eq_true rfl) (Nat.le_of_ble_eq_true rfl) (Nat.le_of_ble_eq_true rfl) rfl ?_
    refine z_as (st' := [.int (iI (bI (clB w (t))))]) rfl rfl rfl ?_
    refine z_ifB_eq C 61 20 dX0_inForce_17 (by decide) rfl (fun c3 => ?_) (fun c3 => ?_)
    · skip
      have c3b : ¬ (0 ≤ (t) ∧ (t) < w 0 0 ∧ (w 1 (t) = 1 ∨ w 1 (t) = 2)) := of_decide_eq_false c3
      refine z_bipush C 63 dX0_inForce_61 (by decide) rfl ?_
      exact z_iret C dX0_inForce_63 rfl (Nat.le_of_ble_eq_true rfl) (Nat.le_of_ble_eq_true rfl) ⟨congrArg (fun z => some (Value.int (iI z))) (by clear C hκ hκl hS hB hB1 hB2 hB3 hB4 hB5 hB6 hC hw hX hs hT h81 h82 f2a f2b f2c f2d f2e f2f f2g f2h f2i f2j f2k f2l; clear hUq; unfold ifI; first | (rw [if_neg]; first | (simp_all; done) | grind) | (rw [if_pos]; first | (simp_all; done) | (simp_all [clB]; done) | grind [clB])), rfl⟩
    · skip
      have c3b : (0 ≤ (t) ∧ (t) < w 0 0 ∧ (w 1 (t) = 1 ∨ w 1 (t) = 2)) := of_decide_eq_true c3
      refine z_aload_n C 21 0 dX0_inForce_20 rfl rfl ?_
      refine z_iload_n C 22 2 dX0_inForce_21 rfl rfl ?_
      refine z_callV (As := [.int (iI (m))]) (rest := []) C hκ hκl 25 (k0_isMethod hX hs hw hT (m) r_m) dX0_inForce_22 q791 q793 qs6 q90 q794 znX0_isMethod (Nat.le_of_ble_eq_true rfl) (Nat.le_of_ble_eq_true rfl) (Nat.le_of_ble_eq_true rfl) (Nat.le_of_ble_eq_true rfl) (zrec_P hX.o) rfl rfl (Nat.le_of_ble_eq_true rfl) rfl (fun v9 Q9 h9 => ?_)
      obtain ⟨rfl, rfl⟩ := h9
      refine z_as (st' := [.int (iI (bI (mtB w (m))))]) rfl rfl rfl ?_
      refine z_ifB_eq C 61 28 dX0_inForce_25 (by decide) rfl (fun c4 => ?_) (fun c4 => ?_)
      · skip
        have c4b : ¬ (0 ≤ (m) ∧ (m) < w 11 0 ∧ w 16 (m) ≠ 1) := of_decide_eq_false c4
        refine z_bipush C 63 dX0_inForce_61 (by decide) rfl ?_
        exact z_iret C dX0_inForce_63 rfl (Nat.le_of_ble_eq_true rfl) (Nat.le_of_ble_eq_true rfl) ⟨congrArg (fun z => some (Value.int (iI z))) (by clear C hκ hκl hS hB hB1 hB2 hB3 hB4 hB5 hB6 hC hw hX hs hT h81 h82 f2a f2b f2c f2d f2e f2f f2g f2h f2i f2j f2k f2l; clear hUq; unfold ifI; first | (rw [if_neg]; first | (simp_all; done) | grind) | (rw [if_pos]; first | (simp_all; done) | (simp_all [clB]; done) | grind [clB])), rfl⟩
      · skip
        have c4b : (0 ≤ (m) ∧ (m) < w 11 0 ∧ w 16 (m) ≠ 1) := of_decide_eq_true c4
        refine z_aload_n C 29 0 dX0_inForce_28 rfl rfl ?_
        refine z_getf C hκ (v := .ref (σ 2 (0))) 32 2 zk_X0 hX.o (by decide) q329 (Or.inl rfl) rfl dX0_inForce_29 rfl ?_
        refine z_iload_n C 33 2 dX0_inForce_32 rfl rfl ?_
        refine x_aM C hκ 34 hX hs (by omega) (by omega) dX0_inForce_33 rfl ?_
        obtain ⟨f5a, f5b, f5c, f5d⟩ := hS.M (show 0 ≤ m by omega) (by omega)
        refine z_callV (As := []) (rest := []) C hκ hκl 37 (k9_isMet hX hs hw hT (m) ⟨by omega, by omega⟩) dX0_inForce_34 q1223 q1033 q1034 q103 q1035 znX9_isMet (Nat.le_of_ble_eq_true rfl) (Nat.le_of_ble_eq_true rfl) (Nat.le_of_ble_eq_true rfl) (Nat.le_of_ble_eq_true rfl) (zrec_P (hX.mem (by omega) (by omega))) rfl rfl (Nat.le_of_ble_eq_true rfl) rfl (fun v9 Q9 h9 => ?_)
        obtain ⟨rfl, rfl⟩ := h9
        refine z_as (st' := [.int (iI (bI (!hasB w (m) 4 && !prB w (m))))]) rfl rfl rfl ?_
        refine z_ifB_eq C 61 40 dX0_inForce_37 (by decide) rfl (fun c6 => ?_) (fun c6 => ?_)
        · skip
          refine z_bipush C 63 dX0_inForce_61 (by decide) rfl ?_
          exact z_iret C dX0_inForce_63 rfl (Nat.le_of_ble_eq_true rfl) (Nat.le_of_ble_eq_true rfl) ⟨congrArg (fun z => some (Value.int (iI z))) (by clear C hκ hκl hS hB hB1 hB2 hB3 hB4 hB5 hB6 hC hw hX hs hT h81 h82 f2a f2b f2c f2d f2e f2f f2g f2h f2i f2j f2k f2l f5a f5b f5c f5d; clear hUq; unfold ifI; first | (rw [if_neg]; first | (simp_all; done) | grind) | (rw [if_pos]; first | (simp_all; done) | (simp_all [clB]; done) | grind [clB])), rfl⟩
        · skip
          refine z_aload_n C 41 0 dX0_inForce_40 rfl rfl ?_
          refine z_getf C hκ (v := .ref (σ 1 (0))) 44 0 zk_X0 hX.o (by decide) q325 (Or.inl rfl) rfl dX0_inForce_41 rfl ?_
          refine z_iload_n C 45 1 dX0_inForce_44 rfl rfl ?_
          refine x_aT C hκ 46 hX hs (by omega) (by omega) dX0_inForce_45 rfl ?_
          refine z_aload_n C 47 0 dX0_inForce_46 rfl rfl ?_
          refine z_getf C hκ (v := .ref (σ 2 (0))) 50 2 zk_X0 hX.o (by decide) q329 (Or.inl rfl) rfl dX0_inForce_47 rfl ?_
          refine z_iload_n C 51 2 dX0_inForce_50 rfl rfl ?_
          refine x_aM C hκ 52 hX hs (by omega) (by omega) dX0_inForce_51 rfl ?_
          refine z_getf C hκ (v := .ref (σ 10 (w 13 (m)))) 55 1 zk_X9 (hX.mem (by omega) (by omega)) (by decide) q657 (Or.inl rfl) rfl dX0_inForce_52 rfl ?_
          have ht8 : 8 ≤ t := by have := (hs.BT t (by omega) (by omega)).2.2.2.2.2.2.2; omega
          have hg : giB w t (w 13 m) = isa w t (w 13 m) := gi_88 ht8 (by omega)
          obtain ⟨f7a, f7b, f7c, f7d, f7e, f7f, f7g, f7h⟩ := hS.T (show 0 ≤ w 13 (m) by omega) (by omega)
          obtain ⟨f7i, f7j, f7k, f7l⟩ := hs.ty (show 0 ≤ w 13 (m) by omega) (by omega)
          refine xv_is (rest := []) C hκ hκl hX hs hw hT (t) (w 13 (m)) ⟨(by omega), (by omega)⟩ ⟨(by omega), (by omega)⟩ 58 dX0_inForce_55 q557 (Nat.le_of_ble_eq_true rfl) (Nat.le_of_ble_eq_true rfl) (Nat.le_of_ble_eq_true rfl) (Nat.le_of_ble_eq_true rfl) (Nat.le_of_ble_eq_true rfl) rfl ?_
          refine z_as (st' := [.int (iI (bI (giB w (t) (w 13 (m)))))]) rfl rfl rfl ?_
          refine z_ifB_ne C 64 61 dX0_inForce_58 (by decide) rfl (fun c8 => ?_) (fun c8 => ?_)
          · skip
            refine z_aload_n C 65 0 dX0_inForce_64 rfl rfl ?_
            refine z_aload_n C 66 0 dX0_inForce_65 rfl rfl ?_
            refine z_getf C hκ (v := .ref (σ 1 (0))) 69 0 zk_X0 hX.o (by decide) q325 (Or.inl rfl) rfl dX0_inForce_66 rfl ?_
            refine z_iload_n C 70 1 dX0_inForce_69 rfl rfl ?_
            refine x_aT C hκ 71 hX hs (by omega) (by omega) dX0_inForce_70 rfl ?_
            refine z_aload_n C 72 0 dX0_inForce_71 rfl rfl ?_
            refine z_getf C hκ (v := .ref (σ 2 (0))) 75 2 zk_X0 hX.o (by decide) q329 (Or.inl rfl) rfl dX0_inForce_72 rfl ?_
            refine z_iload_n C 76 2 dX0_inForce_75 rfl rfl ?_
            refine x_aM C hκ 77 hX hs (by omega) (by omega) dX0_inForce_76 rfl ?_
            refine z_callV (As := [.ref (σ 10 (t)), .ref (σ 20 (m))]) (rest := []) C hκ hκl 80 (k0_inForce_2 hX hs hw hT (t) (m) ⟨by omega, by omega⟩ ⟨by omega, by omega⟩ hUq) dX0_inForce_77 q1224 q1226 qs10 q90 q1227 znX0_inForce_2 (Nat.le_of_ble_eq_true rfl) (Nat.le_of_ble_eq_true rfl) (Nat.le_of_ble_eq_true rfl) (Nat.le_of_ble_eq_true rfl) (zrec_P hX.o) rfl rfl (Nat.le_of_ble_eq_true rfl) rfl (fun v9 Q9 h9 => ?_)
            obtain ⟨rfl, rfl⟩ := h9
            refine z_as (st' := [va_rf (xo σ 20 (foI w (t) (m)))]) rfl rfl rfl ?_
            have hfo := foI_r (w := w) (t := t) (m := m) (by omega)
            refine z_callS (As := [va_rf (xo σ 20 (foI w (t) (m)))]) (rest := []) C hκ hκl 83 (k0_told hX hs hw hT (foI w (t) (m)) ⟨by omega, by omega⟩) dX0_inForce_80 q1201 q1202 q90 q1203 znX0_told (Nat.le_of_ble_eq_true rfl) (Nat.le_of_ble_eq_true rfl) (Nat.le_of_ble_eq_true rfl) (Nat.le_of_ble_eq_true rfl) rfl (Nat.le_of_ble_eq_true rfl) rfl (fun v9 Q9 h9 => ?_)
            obtain ⟨rfl, rfl⟩ := h9
            refine z_as (st' := [.int (iI ((foI w (t) (m))))]) rfl rfl rfl ?_
            exact z_iret C dX0_inForce_83 rfl (Nat.le_of_ble_eq_true rfl) (Nat.le_of_ble_eq_true rfl) ⟨congrArg (fun z => some (Value.int (iI z))) (by clear C hκ hκl hS hB hB1 hB2 hB3 hB4 hB5 hB6 hC hw hX hs hT h81 h82 f2a f2b f2c f2d f2e f2f f2g f2h f2i f2j f2k f2l f5a f5b f5c f5d f7a f7b f7c f7d f7e f7f f7g f7h f7i f7j f7k f7l; clear hUq; unfold ifI; first | (rw [if_neg]; first | (simp_all; done) | grind) | (rw [if_pos]; first | (simp_all; done) | (simp_all [clB]; done) | grind [clB])), rfl⟩
          · skip
            refine z_bipush C 63 dX0_inForce_61 (by decide) rfl ?_
            exact z_iret C dX0_inForce_63 rfl (Nat.le_of_ble_eq_true rfl) (Nat.le_of_ble_eq_true rfl) ⟨congrArg (fun z => some (Value.int (iI z))) (by clear C hκ hκl hS hB hB1 hB2 hB3 hB4 hB5 hB6 hC hw hX hs hT h81 h82 f2a f2b f2c f2d f2e f2f f2g f2h f2i f2j f2k f2l f5a f5b f5c f5d f7a f7b f7c f7d f7e f7f f7g f7h f7i f7j f7k f7l; clear hUq; unfold ifI; first | (rw [if_neg]; first | (simp_all; done) | grind) | (rw [if_pos]; first | (simp_all; done) | (simp_all [clB]; done) | grind [clB])), rfl⟩
