/-! ===== bodies at work ===== -/
/-- a cell of a type that holds a value -/
def cK (t : Int) : Int := if t < 8 then t else 8
def cB (t v : Int) : Int := if t < 8 then v else 0
def cT (σ : xA) (t v : Int) : Option Nat := if t < 8 then none else xo σ 30 v
theorem cK_r {t : Int} (h : 0 ≤ t) : 0 ≤ cK t ∧ cK t ≤ 8 := by unfold cK; split <;> omega
/-- what stands beside the class's own things, and is not the result, stays -/
def xKp (σ : xA) (w : mW) (out : Nat) (M M' : zMap) : Prop := ∀ a e, M a = some e → xFr σ w (xL w) a → a ≠ out → M' a = some e
theorem xKp.of {σ : xA} {w : mW} {out : Nat} {M M' : zMap} (h : zFx out M M') : xKp σ w out M M' := fun a e g1 _ g3 => h a e g1 g3
/-- a method's arguments -/
def xArg (σ : xA) (w : mW) (θ : zTh) (m : Int) (av : Int → Int) (M : zMap) (ar out : Nat) : Prop := ∃ g : Nat → Option Nat, M ar = some (.inl (θ.2.1 11, 3, xQ g)) ∧ ∀ j : Nat, (j : Int) < w 18 m → ∃ c, g j = some c ∧ c ≠ out ∧ M c = some (.inr (6, [.int (iI (cK (w 19 (3 * m + j)))), .long (lI (cB (w 19 (3 * m + j)) (av j))), va_rf (cT σ (w 19 (3 * m + j)) (av j))])) ∧ agB w (w 19 (3 * m + j)) (av j) = true
theorem cK_nm {w : mW} {t v : Int} (h0 : 0 ≤ t) (hv : inL v) (h : ftB w t v = true) : nmOk (cK t) (cB t v) := by
  unfold cK cB
  by_cases h8 : t < 8
  · rw [if_pos h8, if_pos h8]; exact (ft_ok h0 hv h).2.2.2
  · rw [if_neg h8, if_neg h8]; exact ⟨fun h => absurd h (by decide), fun h => absurd h (by decide)⟩
theorem ld_c8 {σ : xA} {t b : Int} (h : 8 ≤ t) : 8 = cK t ∧ ldB t 8 b = cB t b ∧ ldT σ 8 b = cT σ t b := by
  have h9 : ¬ t < 8 := by omega
  exact ⟨(if_neg h9).symm, (if_pos rfl).trans (if_neg h9).symm, (if_pos rfl).trans (if_neg h9).symm⟩
theorem ld_cp {σ : xA} {t b : Int} (h : t < 8) : t = cK t ∧ ldB t t b = cB t b ∧ ldT σ t b = cT σ t b := by
  unfold cK cB cT ldB ldT
  rw [if_pos h, if_pos h, if_pos h, if_neg (by omega), if_neg (by omega)]
  exact ⟨rfl, wdl_same b t, rfl⟩
theorem cB_L {t v : Int} (h : inL v) : inL (cB t v) := by unfold cB; split; exact h; exact ⟨by decide, by decide⟩
theorem wdB_same {t : Int} (h0 : 0 ≤ t) (h : t < 8) : wdB t t = true := by unfold wdB; simp
theorem ld_own {t : Int} (h0 : 0 ≤ t) : ldE t 1 0 (cK t) = 0 := by
  unfold ldE cK
  by_cases h : t < 8
  · rw [if_pos h, if_neg (by omega), if_neg (by omega), if_neg (by rw [wdB_same h0 h]; simp)]
  · rw [if_neg h, if_neg (by omega), if_neg (by omega), if_neg (by simp)]
theorem fv_ft {w : mW} (hV : mV w) {m x : Int} (hm : 0 ≤ m ∧ m < w 11 0) (hfd : w 16 m = 1) (hx : -1 ≤ x ∧ x < w 27 0) (h : agI w m x = 0) : ftB w (w 17 m) (fvL w m x) = true := by
  unfold fvL
  unfold agI at h
  split
  · exact hV.2.1 m hm.1 hm.2 hfd
  · rename_i hst
    rw [if_neg hst] at h
    split at h
    · omega
    · exact hV.2.2.1 x m (by omega) hx.2 hm.1 hm.2 hfd

set_option maxRecDepth 100000 in
theorem k13_place_13 {l : Launch} {θ : zTh} {σ : xA} {w : mW} {M N : zMap} (hX : xM θ σ w (xL w) M) (hs : xS w) (hw : mWF w) (hT : zTb θ) (b : Nat) (m : Int) (f : Int) (fr : Nat) (xs : Int) (ar : Nat) (out : Nat) (dp : Int)  (hb : M b = some (.inr (13, [.ref (σ 20 (m)), .ref (σ 0 (0)), va_rf (xo σ 20 (f)), .ref (σ 0 (0))]))) (hm : 0 ≤ m ∧ m < w 11 0) (hf : -1 ≤ f ∧ f < w 11 0) (r_dp : inR dp) (hFr : M fr = some (.inr (26, [va_rf (xo σ 30 (xs)), .ref (ar), .ref (out), .int (iI (dp))]))) (hxs : -1 ≤ xs ∧ xs < w 27 0) (hf0 : 0 ≤ f) (hfd : w 16 f = 1) (hF : xFd w) (hag : agI w f xs = 0) : ZM θ l yX13_place cX13_place 2 (some (.object "java/lang/Object")) ⟨1, 0, 0, 21⟩ [.ref (b), .ref (fr)] (zP θ M N) (zFn (some (.ref (rwA σ w f xs))) (zP θ M N)) := by
  refine z_start (own := RX13) (nm := "place") pnX13 rfl rfl (Nat.le_of_ble_eq_true rfl) ?_
  intro κ hκ hκl C
  change Z κ (zP θ M N) 0 0 0 [(0, .ref (b)), (1, .ref (fr))] []
  have hS := hs.S
  have hB := hS.B
  obtain ⟨hB1, hB2, hB3, hB4, hB5, hB6⟩ := hS.B
  have hC := hS.C
  obtain ⟨h81, h82⟩ := hs.r8
  obtain ⟨f1a, f1b, f1c, f1d⟩ := hS.M (show 0 ≤ m by omega) (by omega)
  obtain ⟨f2a, f2b, f2c, f2d⟩ := hS.M (show 0 ≤ f by omega) (by omega)
  refine z_aload_n C 1 0 dX13_place_0 rfl rfl ?_
  refine z_getf C hκ (v := va_rf (xo σ 20 (f))) 4 2 zk_X13 hb (by decide) q829 (Or.inl rfl) rfl dX13_place_1 rfl ?_
  refine z_iconst C 5 dX13_place_4 rfl ?_
  have y3 : 0 ≤ f := (by omega)
  rw [xo_y y3]
  refine z_as (st' := [.int (iI (4)), .ref (σ 20 (f))]) (lv' := [(0, .ref (b)), (1, .ref (fr))]) rfl rfl rfl ?_
  refine z_callV (As := [.int (iI (4))]) (rest := []) C hκ hκl 8 (k9_has hX hs hw hT (f) (4) ⟨by decide, by decide⟩ ⟨by omega, by omega⟩) dX13_place_5 q1854 q712 q713 q103 q714 znX9_has (Nat.le_of_ble_eq_true rfl) (Nat.le_of_ble_eq_true rfl) (Nat.le_of_ble_eq_true rfl) (Nat.le_of_ble_eq_true rfl) (zrec_P (hX.mem (by omega) (by omega))) rfl rfl (Nat.le_of_ble_eq_true rfl) rfl (fun v9 Q9 h9 => ?_)
  obtain ⟨rfl, rfl⟩ := h9
  refine z_as (st' := [.int (iI (bI (hasB w (f) (4))))]) rfl rfl rfl ?_
  refine z_ifB_eq C 21 11 dX13_place_8 (by decide) rfl (fun c4 => ?_) (fun c4 => ?_)
  · skip
    have hnst9 : hasB w f 4 = false := by clear C hκ hκl; simp_all
    have hag9 := hag
    unfold agI at hag9
    rw [hnst9] at hag9
    simp only [Bool.false_eq_true, if_false] at hag9
    have hx09 : 0 ≤ xs := by split at hag9 <;> omega
    rw [if_neg (by omega)] at hag9
    have his9 : isa w (w 28 xs) (w 13 f) = true := by split at hag9; omega; rename_i h9; simpa using h9
    have hone9 : w 29 xs = -1 := fd_one hs hF (by omega) (by omega) hfd hx09 hxs.2 hnst9 his9
    have hxx9 := hS.X hx09 hxs.2
    refine z_aload_n C 22 1 dX13_place_21 rfl rfl ?_
    refine z_getf C hκ (v := va_rf (xo σ 30 (xs))) 25 0 zk_X26 hFr (by decide) q1741 (Or.inl rfl) rfl dX13_place_22 rfl ?_
    have y5 : 0 ≤ xs := hx09
    rw [xo_y y5]
    refine z_as (st' := [.ref (σ 30 (xs))]) (lv' := [(0, .ref (b)), (1, .ref (fr))]) rfl rfl rfl ?_
    obtain ⟨f6a, f6b, f6c⟩ := hS.X (show 0 ≤ xs by omega) (by omega)
    refine z_getf C hκ (v := .ref (σ 31 (xs))) 28 3 zk_X24 (hX.one (by omega) (by omega) hone9) (by decide) q1269 (Or.inl rfl) rfl dX13_place_25 rfl ?_
    refine z_aload_n C 29 0 dX13_place_28 rfl rfl ?_
    refine z_getf C hκ (v := va_rf (xo σ 20 (f))) 32 2 zk_X13 hb (by decide) q829 (Or.inl rfl) rfl dX13_place_29 rfl ?_
    have y7 : 0 ≤ f := (by omega)
    rw [xo_y y7]
    refine z_as (st' := [.ref (σ 20 (f)), .ref (σ 31 (xs))]) (lv' := [(0, .ref (b)), (1, .ref (fr))]) rfl rfl rfl ?_
    refine z_getfN C hκ hT (v := .int (iI (f))) 35 0 zk_X9 (hX.mem (by omega) (by omega)) (by decide) q654 (Or.inl rfl) rfl dX13_place_32 rfl ?_
    obtain ⟨e9, hv9, fv9, rfl, hw9⟩ := hX.2 31 xs (Or.inr (Or.inr (Or.inr (Or.inr (Or.inr (Or.inr (Or.inl ⟨rfl, by omega, by omega, hone9⟩)))))))
    have hmt9 : ((f.toNat : Nat) : Int) = f := by omega
    have hin9 : w 13 f ∈ xL w (w 28 xs) := fd_in hs hF (by omega) (by omega) hfd (by omega) (by omega) hnst9 his9
    have hfv9 : fv9 f.toNat = some (σ 33 (100 * xs + f)) := by have h := hw9 f.toNat (by omega) (by rw [hmt9]; exact hfd) (by rw [hmt9]; exact hnst9) (by rw [hmt9]; exact hin9); rw [hmt9] at h; exact h
    refine z_qald C hκ 36 14 hv9 rfl (by omega) (by omega) (by decide) (congrArg va_rf hfv9) dX13_place_35 rfl ?_
    refine z_as (st' := [.ref (σ 33 (100 * xs + f))]) rfl rfl rfl ?_
    exact z_aret C dX13_place_36 (Or.inl ⟨_, rfl⟩) (Or.inr ⟨_, rfl⟩) (Nat.le_of_ble_eq_true rfl) (Nat.le_of_ble_eq_true rfl) ⟨congrArg some (congrArg Value.ref (by unfold rwA; rw [hnst9]; rfl)), rfl⟩
  · skip
    have hst9 : hasB w f 4 = true := by clear C hκ hκl; simp_all
    have hrw9 : xHasRow w f = true := by unfold xHasRow; rw [hst9]; simp [hfd]
    refine z_aload_n C 12 0 dX13_place_11 rfl rfl ?_
    refine z_getf C hκ (v := va_rf (xo σ 20 (f))) 15 2 zk_X13 hb (by decide) q829 (Or.inl rfl) rfl dX13_place_12 rfl ?_
    have y8 : 0 ≤ f := (by omega)
    rw [xo_y y8]
    refine z_as (st' := [.ref (σ 20 (f))]) (lv' := [(0, .ref (b)), (1, .ref (fr))]) rfl rfl rfl ?_
    refine z_getf C hκ (v := va_rf (if xHasRow w (f) then some (σ 23 (f)) else none)) 18 11 zk_X9 (hX.mem (by omega) (by omega)) (by decide) q684 (Or.inl rfl) rfl dX13_place_15 rfl ?_
    rw [show (va_rf (if xHasRow w (f) then some (σ 23 (f)) else none) : Value) = .ref (σ 23 (f)) from (by rw [if_pos hrw9]; rfl : va_rf _ = Value.ref _)]
    refine z_goto C 36 dX13_place_18 (by decide) ?_
    exact z_aret C dX13_place_36 (Or.inl ⟨_, rfl⟩) (Or.inr ⟨_, rfl⟩) (Nat.le_of_ble_eq_true rfl) (Nat.le_of_ble_eq_true rfl) ⟨congrArg some (congrArg Value.ref (by unfold rwA; rw [if_pos hst9])), rfl⟩
set_option maxRecDepth 100000 in
theorem k13_place_14 {l : Launch} {θ : zTh} {σ : xA} {w : mW} {M N : zMap} (hX : xM θ σ w (xL w) M) (hs : xS w) (hw : mWF w) (hT : zTb θ) (b : Nat) (m : Int) (f : Int) (y : Int) (fr : Nat) (xs : Int) (ar : Nat) (out : Nat) (dp : Int)  (hb : M b = some (.inr (14, [.ref (σ 20 (m)), .ref (σ 0 (0)), va_rf (xo σ 20 (f)), .ref (σ 0 (0)), .int (iI (y)), .ref (σ 0 (0))]))) (hm : 0 ≤ m ∧ m < w 11 0) (hf : -1 ≤ f ∧ f < w 11 0) (r_y : inR y) (r_dp : inR dp) (hFr : M fr = some (.inr (26, [va_rf (xo σ 30 (xs)), .ref (ar), .ref (out), .int (iI (dp))]))) (hxs : -1 ≤ xs ∧ xs < w 27 0) (hf0 : 0 ≤ f) (hfd : w 16 f = 1) (hF : xFd w) (hag : agI w f xs = 0) : ZM θ l yX13_place cX13_place 2 (some (.object "java/lang/Object")) ⟨1, 0, 0, 21⟩ [.ref (b), .ref (fr)] (zP θ M N) (zFn (some (.ref (rwA σ w f xs))) (zP θ M N)) := by
  refine z_start (own := RX13) (nm := "place") pnX13 rfl rfl (Nat.le_of_ble_eq_true rfl) ?_
  intro κ hκ hκl C
  change Z κ (zP θ M N) 0 0 0 [(0, .ref (b)), (1, .ref (fr))] []
  have hS := hs.S
  have hB := hS.B
  obtain ⟨hB1, hB2, hB3, hB4, hB5, hB6⟩ := hS.B
  have hC := hS.C
  obtain ⟨h81, h82⟩ := hs.r8
  obtain ⟨f1a, f1b, f1c, f1d⟩ := hS.M (show 0 ≤ m by omega) (by omega)
  obtain ⟨f2a, f2b, f2c, f2d⟩ := hS.M (show 0 ≤ f by omega) (by omega)
  refine z_aload_n C 1 0 dX13_place_0 rfl rfl ?_
  refine z_getf C hκ (v := va_rf (xo σ 20 (f))) 4 2 zk_X14 hb (by decide) q829 (Or.inl rfl) rfl dX13_place_1 rfl ?_
  refine z_iconst C 5 dX13_place_4 rfl ?_
  have y3 : 0 ≤ f := (by omega)
  rw [xo_y y3]
  refine z_as (st' := [.int (iI (4)), .ref (σ 20 (f))]) (lv' := [(0, .ref (b)), (1, .ref (fr))]) rfl rfl rfl ?_
  refine z_callV (As := [.int (iI (4))]) (rest := []) C hκ hκl 8 (k9_has hX hs hw hT (f) (4) ⟨by decide, by decide⟩ ⟨by omega, by omega⟩) dX13_place_5 q1854 q712 q713 q103 q714 znX9_has (Nat.le_of_ble_eq_true rfl) (Nat.le_of_ble_eq_true rfl) (Nat.le_of_ble_eq_true rfl) (Nat.le_of_ble_eq_true rfl) (zrec_P (hX.mem (by omega) (by omega))) rfl rfl (Nat.le_of_ble_eq_true rfl) rfl (fun v9 Q9 h9 => ?_)
  obtain ⟨rfl, rfl⟩ := h9
  refine z_as (st' := [.int (iI (bI (hasB w (f) (4))))]) rfl rfl rfl ?_
  refine z_ifB_eq C 21 11 dX13_place_8 (by decide) rfl (fun c4 => ?_) (fun c4 => ?_)
  · skip
    have hnst9 : hasB w f 4 = false := by clear C hκ hκl; simp_all
    have hag9 := hag
    unfold agI at hag9
    rw [hnst9] at hag9
    simp only [Bool.false_eq_true, if_false] at hag9
    have hx09 : 0 ≤ xs := by split at hag9 <;> omega
    rw [if_neg (by omega)] at hag9
    have his9 : isa w (w 28 xs) (w 13 f) = true := by split at hag9; omega; rename_i h9; simpa using h9
    have hone9 : w 29 xs = -1 := fd_one hs hF (by omega) (by omega) hfd hx09 hxs.2 hnst9 his9
    have hxx9 := hS.X hx09 hxs.2
    refine z_aload_n C 22 1 dX13_place_21 rfl rfl ?_
    refine z_getf C hκ (v := va_rf (xo σ 30 (xs))) 25 0 zk_X26 hFr (by decide) q1741 (Or.inl rfl) rfl dX13_place_22 rfl ?_
    have y5 : 0 ≤ xs := hx09
    rw [xo_y y5]
    refine z_as (st' := [.ref (σ 30 (xs))]) (lv' := [(0, .ref (b)), (1, .ref (fr))]) rfl rfl rfl ?_
    obtain ⟨f6a, f6b, f6c⟩ := hS.X (show 0 ≤ xs by omega) (by omega)
    refine z_getf C hκ (v := .ref (σ 31 (xs))) 28 3 zk_X24 (hX.one (by omega) (by omega) hone9) (by decide) q1269 (Or.inl rfl) rfl dX13_place_25 rfl ?_
    refine z_aload_n C 29 0 dX13_place_28 rfl rfl ?_
    refine z_getf C hκ (v := va_rf (xo σ 20 (f))) 32 2 zk_X14 hb (by decide) q829 (Or.inl rfl) rfl dX13_place_29 rfl ?_
    have y7 : 0 ≤ f := (by omega)
    rw [xo_y y7]
    refine z_as (st' := [.ref (σ 20 (f)), .ref (σ 31 (xs))]) (lv' := [(0, .ref (b)), (1, .ref (fr))]) rfl rfl rfl ?_
    refine z_getfN C hκ hT (v := .int (iI (f))) 35 0 zk_X9 (hX.mem (by omega) (by omega)) (by decide) q654 (Or.inl rfl) rfl dX13_place_32 rfl ?_
    obtain ⟨e9, hv9, fv9, rfl, hw9⟩ := hX.2 31 xs (Or.inr (Or.inr (Or.inr (Or.inr (Or.inr (Or.inr (Or.inl ⟨rfl, by omega, by omega, hone9⟩)))))))
    have hmt9 : ((f.toNat : Nat) : Int) = f := by omega
    have hin9 : w 13 f ∈ xL w (w 28 xs) := fd_in hs hF (by omega) (by omega) hfd (by omega) (by omega) hnst9 his9
    have hfv9 : fv9 f.toNat = some (σ 33 (100 * xs + f)) := by have h := hw9 f.toNat (by omega) (by rw [hmt9]; exact hfd) (by rw [hmt9]; exact hnst9) (by rw [hmt9]; exact hin9); rw [hmt9] at h; exact h
    refine z_qald C hκ 36 14 hv9 rfl (by omega) (by omega) (by decide) (congrArg va_rf hfv9) dX13_place_35 rfl ?_
    refine z_as (st' := [.ref (σ 33 (100 * xs + f))]) rfl rfl rfl ?_
    exact z_aret C dX13_place_36 (Or.inl ⟨_, rfl⟩) (Or.inr ⟨_, rfl⟩) (Nat.le_of_ble_eq_true rfl) (Nat.le_of_ble_eq_true rfl) ⟨congrArg some (congrArg Value.ref (by unfold rwA; rw [hnst9]; rfl)), rfl⟩
  · skip
    have hst9 : hasB w f 4 = true := by clear C hκ hκl; simp_all
    have hrw9 : xHasRow w f = true := by unfold xHasRow; rw [hst9]; simp [hfd]
    refine z_aload_n C 12 0 dX13_place_11 rfl rfl ?_
    refine z_getf C hκ (v := va_rf (xo σ 20 (f))) 15 2 zk_X14 hb (by decide) q829 (Or.inl rfl) rfl dX13_place_12 rfl ?_
    have y8 : 0 ≤ f := (by omega)
    rw [xo_y y8]
    refine z_as (st' := [.ref (σ 20 (f))]) (lv' := [(0, .ref (b)), (1, .ref (fr))]) rfl rfl rfl ?_
    refine z_getf C hκ (v := va_rf (if xHasRow w (f) then some (σ 23 (f)) else none)) 18 11 zk_X9 (hX.mem (by omega) (by omega)) (by decide) q684 (Or.inl rfl) rfl dX13_place_15 rfl ?_
    rw [show (va_rf (if xHasRow w (f) then some (σ 23 (f)) else none) : Value) = .ref (σ 23 (f)) from (by rw [if_pos hrw9]; rfl : va_rf _ = Value.ref _)]
    refine z_goto C 36 dX13_place_18 (by decide) ?_
    exact z_aret C dX13_place_36 (Or.inl ⟨_, rfl⟩) (Or.inr ⟨_, rfl⟩) (Nat.le_of_ble_eq_true rfl) (Nat.le_of_ble_eq_true rfl) ⟨congrArg some (congrArg Value.ref (by unfold rwA; rw [if_pos hst9])), rfl⟩
