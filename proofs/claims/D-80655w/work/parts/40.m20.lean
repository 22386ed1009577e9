/-! ===== the Model: laws of calls ===== -/
theorem sS_mS {w w' : mW} (h : ∀ (k : Nat) (i : Int), k < 35 → w' k i = w k i) (hS : mS w) : mS w' := mS_S h hS
theorem ftB_27 {w w' : mW} (h : w' 27 0 = w 27 0) (t b : Int) : ftB w' t b = ftB w t b := by unfold ftB; rw [h]
theorem giB_8 {w w' : mW} (h : ∀ i, w' 8 i = w 8 i) (a b : Int) : giB w' a b = giB w a b := by unfold giB isa mb; rw [h]
theorem cvB_8 {w w' : mW} (h : ∀ i, w' 8 i = w 8 i) (a b : Int) : cvB w' a b = cvB w a b := by unfold cvB; rw [giB_8 h]
theorem mtB_e {w w' : mW} (h : w' 11 0 = w 11 0) (h' : ∀ i, w' 16 i = w 16 i) (m : Int) : mtB w' m = mtB w m := by unfold mtB; rw [h, h']
theorem clW1_e {w : mW} : (∀ (k : Nat) (i : Int), k ≠ 45 → k ≠ 49 → k ≠ 50 → clW1 w k i = w k i) ∧ clW1 w 45 0 = w 45 0 - 1 := by
  unfold clW1
  refine ⟨fun k i h1 h2 h3 => ?_, ?_⟩
  · repeat' split
    all_goals (rw [cmW_C k i h2 h3, mset_k h1])
  · repeat' split
    all_goals (rw [cmW_C 45 0 (by decide) (by decide), mset_s])
theorem clW1_came {w : mW} : (clW1 w 49 0 = w 17 (wkM w)) ∧ clW1 w 50 0 = (if w 17 (wkM w) = -1 then 0 else if w 49 0 = -1 then noneI (w 17 (wkM w)) else wdL (w 50 0) (w 49 0) (w 17 (wkM w))) := by
  unfold clW1 cmW
  split
  · rename_i h; exact ⟨by rw [mset_k (by decide), mset_s, h], by rw [mset_s]⟩
  · split
    · exact ⟨by rw [mset_k (by decide), mset_s], by rw [mset_s]⟩
    · exact ⟨by rw [mset_k (by decide), mset_s], by rw [mset_s]⟩
theorem wd_cv {w : mW} {f t b : Int} (h : ftB w f b = true) (hg : cvB w f t = true) (hf : 0 ≤ f) (ht : t ≠ -1) : ftB w t (wdL b f t) = true := by
  unfold cvB at hg
  simp only [Bool.or_eq_true, decide_eq_true_eq] at hg
  rcases hg with ((h1 | h1) | h1) | h1
  · omega
  · omega
  · subst h1; unfold wdL; rw [if_pos (Or.inl rfl)]; exact h
  · exact wd_ft h h1 hf
theorem clP_next {w : mW} {n : Nat} (h : clP w (n + 1)) : clP (clW1 w) n := by
  obtain ⟨h1, h2, h3, ⟨h4, h5⟩, h6, h7⟩ := h
  obtain ⟨e, e45⟩ := clW1_e (w := w)
  obtain ⟨c1, c2⟩ := clW1_came (w := w)
  have e27 := e 27 0 (by decide) (by decide) (by decide)
  have e8 : ∀ i, clW1 w 8 i = w 8 i := fun i => e 8 i (by decide) (by decide) (by decide)
  have e46 : ∀ i, clW1 w 46 i = w 46 i := fun i => e 46 i (by decide) (by decide) (by decide)
  have e17 : ∀ i, clW1 w 17 i = w 17 i := fun i => e 17 i (by decide) (by decide) (by decide)
  have em : wkM w = w 46 n := by unfold wkM; congr 1; omega
  have hm := h4 n (by omega) (by omega)
  have hmt := of_decide_eq_true hm
  have hr := (h1.M hmt.1 hmt.2.1).2.2.1
  have h60 := h1.B.2.1
  refine ⟨mS_S (fun k i hk => e k i (by omega) (by omega) (by omega)) h1, by rw [e45]; omega, by omega, ⟨fun j h0 hj => ?_, fun j h0 hj => ?_⟩, fun hn => ?_, fun hc => ?_⟩
  · rw [mtB_e (e 11 0 (by decide) (by decide) (by decide)) (fun i => e 16 i (by decide) (by decide) (by decide)), e46]; exact h4 j h0 (by omega)
  · rw [cvB_8 e8, e17, e17, e46, e46]; exact h5 j h0 (by omega)
  · rw [cvB_8 e8, c1, e17, em]
    have h8 := h5 (n - 1) (by omega) (by omega)
    rw [show ((n : Int) - 1 + 1) = n by omega] at h8
    have : wkM (clW1 w) = w 46 (n - 1) := by unfold wkM; rw [e46, e45]; congr 1; omega
    rw [this]; exact h8
  · rw [c1] at hc
    rw [c1, c2, ftB_27 e27, if_neg hc, em]
    rw [em] at hc
    have hrm : 0 ≤ w 17 (w 46 n) ∧ w 17 (w 46 n) < w 0 0 := ⟨by omega, hr.2⟩
    refine ⟨hrm.1, by omega, ?_⟩
    split
    · exact ft_none hrm.1 h1.B.2.2.2.2.1
    · rename_i h49
      have h6 := h6 (by omega)
      rw [em] at h6
      exact wd_cv (h7 h49).2.2 h6 (h7 h49).1 hc
theorem clW1_wf {w : mW} (hw : mWF w) (h : 1 ≤ w 45 0 ∧ w 45 0 ≤ 12) : mWF (clW1 w) := by
  have h1 : mWF (mset w 45 0 (w 45 0 - 1)) := hw.set ⟨by omega, by omega⟩ rfl
  unfold clW1
  split
  · exact cmW_wf h1 ⟨by decide, by decide⟩ ⟨by decide, by decide⟩
  · split
    · exact cmW_wf h1 (hw.r _ _ rfl) (noneI_L _)
    · exact cmW_wf h1 (hw.r _ _ rfl) (wdL_L (hw.l _ _))
theorem caW_wf : ∀ (n : Nat) {w : mW}, mWF w → clP w n → mWF (caW n w)
  | 0, _, h, _ => h
  | n + 1, w, h, hP => caW_wf n (clW1_wf h ⟨by have := hP.2.1; omega, by have := hP.2.1; have := hP.2.2.1; omega⟩) (clP_next hP)

set_option maxRecDepth 100000 in
theorem k7_opens {l : Launch} {θ : zTh} {N : zMap} {am : Nat} {ar : Nat → Nat} {w : mW} (hD : mDis am ar) (hw : mWF w) (m : Int) (told : Int) (r_m : inR m) (r_told : inR told) (hS : mS w) (hm : 0 ≤ m ∧ m < w 11 0) (ht : 0 ≤ told ∧ told < w 11 0) (ho : 1 ≤ w 45 0 ∧ w 45 0 ≤ 11) (ha : 0 ≤ wkM w ∧ wkM w < w 11 0) (hle : w 18 told ≤ w 18 (wkM w)) (hf : ∀ k : Int, 0 ≤ k → k < w 18 told → w 19 (3 * wkM w + k) = 6 → 6 ≤ w 19 (3 * told + k) → inR (wkA w k) ∧ zlandd (wkA w k) 2147483647 ≤ 2139095040) (h35 : 0 ≤ w 35 0 ∧ w 35 0 ≤ 1000000) : ZF θ l yX7_opens cX7_opens 5 none ⟨3, 0, 0, 75⟩ [.ref (am), .int (iI (m)), .int (iI (told))] (mP θ am ar w N) none (mP θ am ar (opW w m told) N) := by
  refine z_start (own := RX7) (nm := "opens") pnX7 rfl rfl (Nat.le_of_ble_eq_true rfl) ?_
  intro κ hκ hκl C
  change Z κ (mP θ am ar w N) 0 0 0 [(0, .ref (am)), (1, .int (iI (m))), (2, .int (iI (told)))] []
  have hB := hS.B
  obtain ⟨hB1, hB2, hB3, hB4, hB5, hB6⟩ := hS.B
  have hC := hS.C
  have ht18 := (hS.M ht.1 ht.2).2.1
  refine z_aload_n C 1 0 dX7_opens_0 rfl rfl ?_
  refine m_geta C hκ 4 46 (by decide) rfl q2041 rfl dX7_opens_1 rfl ?_
  refine z_aload_n C 5 0 dX7_opens_4 rfl rfl ?_
  refine m_geti C hκ 8 45 (by decide) rfl q2040 rfl dX7_opens_5 rfl ?_
  refine z_iconst C 9 dX7_opens_8 rfl ?_
  refine z_isub C 10 dX7_opens_9 rfl ?_
  refine m_iald (len := 14) C hκ hD 11 46 (by decide) rfl rfl (by omega) (by omega) dX7_opens_10 rfl ?_
  obtain ⟨o, eo⟩ : ∃ z, w 46 ((w 45 0) - (1)) = z := ⟨_, rfl⟩
  rw [eo]
  have eo0 : wkM w = o := eo
  rw [eo0] at ha hle hf
  refine z_istore_n (lv' := [(0, .ref (am)), (1, .int (iI (m))), (2, .int (iI (told))), (3, .int (iI (o)))]) C 12 [1, 2, 3, 0] dX7_opens_11 (by decide) rfl rfl ?_
  refine z_iconst C 13 dX7_opens_12 rfl ?_
  refine z_istore (lv' := [(0, .ref (am)), (1, .int (iI (m))), (2, .int (iI (told))), (3, .int (iI (o))), (4, .int (iI (0)))]) C 15 [1, 2, 3, 4, 0] dX7_opens_13 (by decide) rfl rfl ?_
  have L15_1 : ∀ (fu : Nat) (k : Nat) (w' : mW) (hk : (k : Int) ≤ w 18 told) (ew : w' = opA w o told k) (hw' : mWF w') (hme : (w 18 told).toNat - k < fu), Z κ (mP θ am ar w' N) 0 0 15 [(0, .ref (am)), (1, .int (iI (m))), (2, .int (iI (told))), (3, .int (iI (o))), (4, .int (iI ((k : Int))))] [] := by
    intro fu
    induction fu with
    | zero => intro k w' hk ew hw' hme; exact absurd hme (Nat.not_lt_zero _)
    | succ fu ih2 =>
      intro k w' hk ew hw' hme
      have e9 : ∀ (k : Nat) (i : Int), k ≠ 47 → w' k i = w k i := fun k' i h => by rw [ew]; exact opA_k h _ i
      have e45 := e9 45 0 (by decide); have e18 := e9 18 told (by decide); have e35 := e9 35 0 (by decide)
      have a47 : ∀ i : Int, i < 3 * w 45 0 → w' 47 i = w 47 i := fun i h => by rw [ew]; exact opA_old h _
      have hS' : mS w' := mS_S (fun k i hk => e9 k i (by omega)) hS
      refine z_iload C 17 4 dX7_opens_15 rfl rfl ?_
      refine z_aload_n C 18 0 dX7_opens_17 rfl rfl ?_
      refine m_geta C hκ 21 18 (by decide) rfl q2013 rfl dX7_opens_18 rfl ?_
      refine z_iload_n C 22 2 dX7_opens_21 rfl rfl ?_
      refine m_iald (len := 100) C hκ hD 23 18 (by decide) rfl rfl (by omega) (by omega) dX7_opens_22 rfl ?_
      refine z_icmp_ge C 87 26 dX7_opens_23 (by decide) ⟨by omega, by omega⟩ (hw'.r _ _ rfl) rfl (fun c3 => ?_) (fun c3 => ?_)
      · skip
        refine z_aload_n C 88 0 dX7_opens_87 rfl rfl ?_
        refine m_geta C hκ 91 46 (by decide) rfl q2041 rfl dX7_opens_88 rfl ?_
        refine z_aload_n C 92 0 dX7_opens_91 rfl rfl ?_
        refine m_geti C hκ 95 45 (by decide) rfl q2040 rfl dX7_opens_92 rfl ?_
        refine z_iload_n C 96 1 dX7_opens_95 rfl rfl ?_
        obtain ⟨w1, ew1⟩ : ∃ wz, mset w' 46 (w' 45 0) (m) = wz := ⟨_, rfl⟩
        have hw1 : mWF w1 := ew1 ▸ hw'.set r_m rfl
        refine m_iast (len := 14) (w' := w1) C hκ hD 97 46 (by decide) rfl rfl (by omega) (by omega) dX7_opens_96 rfl ew1 ?_
        have e45b : w1 45 0 = w 45 0 := by rw [← ew1, mset_k (by decide)]; exact e45
        have e35b : w1 35 0 = w 35 0 := by rw [← ew1, mset_k (by decide)]; exact e35
        refine z_aload_n C 98 0 dX7_opens_97 rfl rfl ?_
        refine z_dup C 99 dX7_opens_98 rfl rfl ?_
        refine m_geti C hκ 102 45 (by decide) rfl q2040 rfl dX7_opens_99 rfl ?_
        refine z_iconst C 103 dX7_opens_102 rfl ?_
        refine z_iadd C 104 dX7_opens_103 rfl ?_
        obtain ⟨w2, ew2⟩ : ∃ wz, mset w1 45 (0) ((w1 45 0) + (1)) = wz := ⟨_, rfl⟩
        have hw2 : mWF w2 := ew2 ▸ hw1.set ⟨by omega, by omega⟩ rfl
        refine m_puti (w' := w2) C hκ 107 45 (by decide) (by decide) rfl q2040 rfl rfl rfl rfl dX7_opens_104 rfl ew2 ?_
        have e35c : w2 35 0 = w 35 0 := by rw [← ew2, mset_k (by decide)]; exact e35b
        refine z_aload_n C 108 0 dX7_opens_107 rfl rfl ?_
        refine z_dup C 109 dX7_opens_108 rfl rfl ?_
        refine m_geti C hκ 112 35 (by decide) rfl q2030 rfl dX7_opens_109 rfl ?_
        refine z_iconst C 113 dX7_opens_112 rfl ?_
        refine z_iadd C 114 dX7_opens_113 rfl ?_
        obtain ⟨w3, ew3⟩ : ∃ wz, mset w2 35 (0) ((w2 35 0) + (1)) = wz := ⟨_, rfl⟩
        have hw3 : mWF w3 := ew3 ▸ hw2.set ⟨by omega, by omega⟩ rfl
        refine m_puti (w' := w3) C hκ 117 35 (by decide) (by decide) rfl q2030 rfl rfl rfl rfl dX7_opens_114 rfl ew3 ?_
        exact z_vret C dX7_opens_117 (Nat.le_of_ble_eq_true rfl) (Nat.le_of_ble_eq_true rfl) ⟨rfl, (congrArg (fun w' => mP θ am ar w' N) (by unfold opW; rw [eo0, ← ew3, e35c, ← ew2, e45b, ← ew1, e45, ew, show k = (w 18 told).toNat by omega]))⟩
      · skip
        refine z_aload_n C 27 0 dX7_opens_26 rfl rfl ?_
        refine m_geta C hκ 30 47 (by decide) rfl q2042 rfl dX7_opens_27 rfl ?_
        refine z_iconst C 31 dX7_opens_30 rfl ?_
        refine z_aload_n C 32 0 dX7_opens_31 rfl rfl ?_
        refine m_geti C hκ 35 45 (by decide) rfl q2040 rfl dX7_opens_32 rfl ?_
        refine z_imul C 36 dX7_opens_35 rfl ?_
        refine z_iload C 38 4 dX7_opens_36 rfl rfl ?_
        refine z_iadd C 39 dX7_opens_38 rfl ?_
        refine z_aload_n C 40 0 dX7_opens_39 rfl rfl ?_
        refine m_geta C hκ 43 47 (by decide) rfl q2042 rfl dX7_opens_40 rfl ?_
        refine z_iconst C 44 dX7_opens_43 rfl ?_
        refine z_aload_n C 45 0 dX7_opens_44 rfl rfl ?_
        refine m_geti C hκ 48 45 (by decide) rfl q2040 rfl dX7_opens_45 rfl ?_
        refine z_iconst C 49 dX7_opens_48 rfl ?_
        refine z_isub C 50 dX7_opens_49 rfl ?_
        refine z_imul C 51 dX7_opens_50 rfl ?_
        refine z_iload C 53 4 dX7_opens_51 rfl rfl ?_
        refine z_iadd C 54 dX7_opens_53 rfl ?_
        refine m_lald (len := 42) C hκ hD 55 47 (by decide) rfl rfl (by omega) (by omega) dX7_opens_54 rfl ?_
        refine z_aload_n C 56 0 dX7_opens_55 rfl rfl ?_
        refine m_geta C hκ 59 19 (by decide) rfl q2014 rfl dX7_opens_56 rfl ?_
        refine z_iconst C 60 dX7_opens_59 rfl ?_
        refine z_iload_n C 61 3 dX7_opens_60 rfl rfl ?_
        refine z_imul C 62 dX7_opens_61 rfl ?_
        refine z_iload C 64 4 dX7_opens_62 rfl rfl ?_
        refine z_iadd C 65 dX7_opens_64 rfl ?_
        refine m_iald (len := 300) C hκ hD 66 19 (by decide) rfl rfl (by omega) (by omega) dX7_opens_65 rfl ?_
        refine z_aload_n C 67 0 dX7_opens_66 rfl rfl ?_
        refine m_geta C hκ 70 19 (by decide) rfl q2014 rfl dX7_opens_67 rfl ?_
        refine z_iconst C 71 dX7_opens_70 rfl ?_
        refine z_iload_n C 72 2 dX7_opens_71 rfl rfl ?_
        refine z_imul C 73 dX7_opens_72 rfl ?_
        refine z_iload C 75 4 dX7_opens_73 rfl rfl ?_
        refine z_iadd C 76 dX7_opens_75 rfl ?_
        refine m_iald (len := 300) C hκ hD 77 19 (by decide) rfl rfl (by omega) (by omega) dX7_opens_76 rfl ?_
        refine z_callSF (n' := 0) (k' := 0) (As := [.long (lI (w' 47 (((3) * ((w' 45 0) - (1))) + ((k : Int))))), .int (iI (w' 19 (((3) * (o)) + ((k : Int))))), .int (iI (w' 19 (((3) * (told)) + ((k : Int)))))]) (rest := [.int (iI (((3) * (w' 45 0)) + ((k : Int)))), .ref (ar 47)]) C hκ hκl 80 (k7_widened (w' 47 (((3) * ((w' 45 0) - (1))) + ((k : Int)))) (w' 19 (((3) * (o)) + ((k : Int)))) (w' 19 (((3) * (told)) + ((k : Int)))) (hw'.l _ _) (hw'.r _ _ rfl) (hw'.r _ _ rfl) (fun h6 h7 => by rw [e9 19 _ (by decide)] at h6 h7; rw [a47 _ (by omega), e45]; exact hf k (by omega) (by omega) h6 h7)) dX7_opens_77 q2428 q2429 q97 q2430 znX7_widened (Nat.le_of_ble_eq_true rfl) (Nat.le_of_ble_eq_true rfl) (Nat.le_of_ble_eq_true rfl) (Nat.le_of_ble_eq_true rfl) rfl (Nat.le_of_ble_eq_true rfl) rfl rfl rfl ?_
        obtain ⟨w4, ew4⟩ : ∃ wz, mset w' 47 (((3) * (w' 45 0)) + ((k : Int))) (wdL (w' 47 (((3) * ((w' 45 0) - (1))) + ((k : Int)))) (w' 19 (((3) * (o)) + ((k : Int)))) (w' 19 (((3) * (told)) + ((k : Int))))) = wz := ⟨_, rfl⟩
        have hw4 : mWF w4 := ew4 ▸ hw'.setL (wdL_L (hw'.l _ _)) rfl rfl
        refine m_last (len := 42) (w' := w4) C hκ hD 81 47 (by decide) rfl rfl (by omega) (by omega) dX7_opens_80 rfl ew4 ?_
        refine z_iinc (lv' := [(0, .ref (am)), (1, .int (iI (m))), (2, .int (iI (told))), (3, .int (iI (o))), (4, .int (iI (((k : Int)) + 1)))]) C 84 4 [1, 2, 3, 4, 0] dX7_opens_81 rfl (by decide) rfl rfl ?_
        refine z_goto C 15 dX7_opens_84 (by decide) ?_
        refine z_as (lv' := [(0, .ref (am)), (1, .int (iI (m))), (2, .int (iI (told))), (3, .int (iI (o))), (4, .int (iI (((k + 1) : Int))))]) rfl rfl rfl ?_
        exact ih2 (k + 1) (w4) (by omega) (by rw [← ew4]; simp only [opA]; rw [← ew, e45, e9 19 _ (by decide), e9 19 _ (by decide)]) hw4 (by omega)
  refine z_as (lv' := [(0, .ref (am)), (1, .int (iI (m))), (2, .int (iI (told))), (3, .int (iI (o))), (4, .int (iI (((0) : Int))))]) rfl rfl rfl ?_
  exact L15_1 _ (0) (w) (by omega) rfl hw (Nat.lt_succ_self _)
set_option maxRecDepth 100000 in
theorem k7_closeAll {l : Launch} {θ : zTh} {N : zMap} {am : Nat} {ar : Nat → Nat} {w : mW} (hD : mDis am ar) (hw : mWF w)   (hP : clP w (w 45 0).toNat) : ZF θ l yX7_closeAll cX7_closeAll 3 none ⟨3, 0, 0, 75⟩ [.ref (am)] (mP θ am ar w N) none (mP θ am ar (caW (w 45 0).toNat w) N) := by
  refine z_start (own := RX7) (nm := "closeAll") pnX7 rfl rfl (Nat.le_of_ble_eq_true rfl) ?_
  intro κ hκ hκl C
  change Z κ (mP θ am ar w N) 0 0 0 [(0, .ref (am))] []
  have L0_1 : ∀ (fu : Nat) (n : Nat) (w' : mW) (hP : clP w' n) (hw' : mWF w') (hR : caW n w' = caW (w 45 0).toNat w) (hme : n < fu), Z κ (mP θ am ar w' N) 0 0 0 [(0, .ref (am))] [] := by
    intro fu
    induction fu with
    | zero => intro n w' hP hw' hR hme; exact absurd hme (Nat.not_lt_zero _)
    | succ fu ih2 =>
      intro n w' hP hw' hR hme
      have hP0 := hP; have hn0 := hP.2.1; have hn1 := hP.2.2.1
      refine z_aload_n C 1 0 dX7_closeAll_0 rfl rfl ?_
      refine m_geti C hκ 4 45 (by decide) rfl q2040 rfl dX7_closeAll_1 rfl ?_
      refine z_if_le C 88 7 dX7_closeAll_4 (by decide) (hw'.r _ _ rfl) rfl (fun c3 => ?_) (fun c3 => ?_)
      · skip
        exact z_vret C dX7_closeAll_88 (Nat.le_of_ble_eq_true rfl) (Nat.le_of_ble_eq_true rfl) ⟨rfl, (congrArg (fun w' => mP θ am ar w' N) (by rw [← hR, show n = 0 by omega]; rfl))⟩
      · skip
        refine z_aload_n C 8 0 dX7_closeAll_7 rfl rfl ?_
        refine z_dup C 9 dX7_closeAll_8 rfl rfl ?_
        refine m_geti C hκ 12 45 (by decide) rfl q2040 rfl dX7_closeAll_9 rfl ?_
        refine z_iconst C 13 dX7_closeAll_12 rfl ?_
        refine z_isub C 14 dX7_closeAll_13 rfl ?_
        obtain ⟨w1, ew1⟩ : ∃ wz, mset w' 45 (0) ((w' 45 0) - (1)) = wz := ⟨_, rfl⟩
        have hw1 : mWF w1 := ew1 ▸ hw'.set ⟨by omega, by omega⟩ rfl
        refine m_puti (w' := w1) C hκ 17 45 (by decide) (by decide) rfl q2040 rfl rfl rfl rfl dX7_closeAll_14 rfl ew1 ?_
        have e9 : ∀ (k : Nat) (i : Int), k ≠ 45 → w1 k i = w' k i := fun k i h => by rw [← ew1]; exact mset_k h
        have e45 : w1 45 0 = w' 45 0 - 1 := by rw [← ew1]; exact mset_s
        obtain ⟨p1, p2, p3, ⟨p4, p5⟩, p6, p7⟩ := hP
        have hmt := of_decide_eq_true (p4 (w' 45 0 - 1) (by omega) (by omega))
        have hS1 : mS w1 := mS_S (fun k i hk => e9 k i (by omega)) p1
        have g0 := e9 11 0 (by decide)
        refine z_aload_n C 18 0 dX7_closeAll_17 rfl rfl ?_
        refine m_geta C hκ 21 46 (by decide) rfl q2041 rfl dX7_closeAll_18 rfl ?_
        refine z_aload_n C 22 0 dX7_closeAll_21 rfl rfl ?_
        refine m_geti C hκ 25 45 (by decide) rfl q2040 rfl dX7_closeAll_22 rfl ?_
        refine m_iald (len := 14) C hκ hD 26 46 (by decide) rfl rfl (by omega) (by omega) dX7_closeAll_25 rfl ?_
        obtain ⟨m, em⟩ : ∃ z, w1 46 (w1 45 0) = z := ⟨_, rfl⟩
        rw [em]
        have em9 : w' 46 (w' 45 0 - 1) = m := by rw [← em, e45]; exact (e9 46 _ (by decide)).symm
        rw [em9] at hmt
        have hm0 : wkM w' = m := em9
        have hB1 := hS1.B; have hB60 := hS1.B.2.1; have hB100 := p1.B.2.2.2.1; have hr9 := (hS1.M hmt.1 (by omega)).2.2.1
        refine z_istore_n (lv' := [(0, .ref (am)), (1, .int (iI (m)))]) C 27 [1, 0] dX7_closeAll_26 (by decide) rfl rfl ?_
        refine z_aload_n C 28 0 dX7_closeAll_27 rfl rfl ?_
        refine m_geta C hκ 31 17 (by decide) rfl q2012 rfl dX7_closeAll_28 rfl ?_
        refine z_iload_n C 32 1 dX7_closeAll_31 rfl rfl ?_
        refine m_iald (len := 100) C hκ hD 33 17 (by decide) rfl rfl (by omega) (by omega) dX7_closeAll_32 rfl ?_
        obtain ⟨r, er⟩ : ∃ z, w1 17 (m) = z := ⟨_, rfl⟩
        rw [er]
        have hr0 : w' 17 (wkM w') = r := by rw [hm0, ← er]; exact (e9 17 m (by decide)).symm
        have g49 := e9 49 0 (by decide); have g50 := e9 50 0 (by decide)
        refine z_istore_n (lv' := [(0, .ref (am)), (1, .int (iI (m))), (2, .int (iI (r)))]) C 34 [1, 2, 0] dX7_closeAll_33 (by decide) rfl rfl ?_
        refine z_iload_n C 35 2 dX7_closeAll_34 rfl rfl ?_
        refine z_iconst C 36 dX7_closeAll_35 rfl ?_
        refine z_icmp_ne C 48 39 dX7_closeAll_36 (by decide) ⟨by omega, by omega⟩ ⟨by decide, by decide⟩ rfl (fun c4 => ?_) (fun c4 => ?_)
        · skip
          refine z_aload_n C 49 0 dX7_closeAll_48 rfl rfl ?_
          refine m_geti C hκ 52 49 (by decide) rfl q2044 rfl dX7_closeAll_49 rfl ?_
          refine z_iconst C 53 dX7_closeAll_52 rfl ?_
          refine z_icmp_ne C 68 56 dX7_closeAll_53 (by decide) (hw1.r _ _ rfl) ⟨by decide, by decide⟩ rfl (fun c5 => ?_) (fun c5 => ?_)
          · skip
            refine z_aload_n C 69 0 dX7_closeAll_68 rfl rfl ?_
            refine z_iload_n C 70 2 dX7_closeAll_69 rfl rfl ?_
            refine z_aload_n C 71 0 dX7_closeAll_70 rfl rfl ?_
            refine m_getl C hκ 74 50 (by decide) rfl q2045 rfl dX7_closeAll_71 rfl ?_
            refine z_aload_n C 75 0 dX7_closeAll_74 rfl rfl ?_
            refine m_geti C hκ 78 49 (by decide) rfl q2044 rfl dX7_closeAll_75 rfl ?_
            refine z_iload_n C 79 2 dX7_closeAll_78 rfl rfl ?_
            refine z_callSF (n' := 0) (k' := 0) (As := [.long (lI (w1 50 0)), .int (iI (w1 49 0)), .int (iI (r))]) (rest := [.int (iI (r)), .ref (am)]) C hκ hκl 82 (k7_widened (w1 50 0) (w1 49 0) (r) (hw1.l _ _) (hw1.r _ _ rfl) ⟨by omega, by omega⟩ (fun h6 h7 => by rw [g49] at h6; rw [g50]; exact ft6 (p7 (by omega)).2.2 h6 h7)) dX7_closeAll_79 q2428 q2429 q97 q2430 znX7_widened (Nat.le_of_ble_eq_true rfl) (Nat.le_of_ble_eq_true rfl) (Nat.le_of_ble_eq_true rfl) (Nat.le_of_ble_eq_true rfl) rfl (Nat.le_of_ble_eq_true rfl) rfl rfl rfl ?_
            refine z_callVF0 (n' := 0) (k' := 0) (As := [.int (iI (r)), .long (lI (wdL (w1 50 0) (w1 49 0) (r)))]) (rest := []) C hκ hκl 85 (k7_comesTo hD hw1 (r) (wdL (w1 50 0) (w1 49 0) (r)) ⟨by omega, by omega⟩ (wdL_L (hw1.l _ _))) dX7_closeAll_82 q2540 q2542 qs85 q97 q2543 znX7_comesTo (Nat.le_of_ble_eq_true rfl) (Nat.le_of_ble_eq_true rfl) (Nat.le_of_ble_eq_true rfl) (Nat.le_of_ble_eq_true rfl) mrec rfl rfl (Nat.le_of_ble_eq_true rfl) rfl rfl rfl ?_
            obtain ⟨w2, ew2⟩ : ∃ wz, (mset (mset w1 49 0 (r)) 50 0 (wdL (w1 50 0) (w1 49 0) (r))) = wz := ⟨_, rfl⟩
            rw [ew2]
            have hw2 : mWF w2 := ew2 ▸ ((hw1.set ⟨by omega, by omega⟩ rfl).setL (wdL_L (hw1.l _ _)) rfl rfl)
            have hcl : clW1 w' = w2 := by unfold clW1 cmW; rw [hr0, ← ew2, ← ew1]; first | (rw [if_pos (by omega), show r = -1 by omega]; done) | (rw [if_neg (by omega), if_pos (by omega)]; done) | (rw [if_neg (by omega), if_neg (by omega), mset_k (by decide), mset_k (by decide)]; done) | (rw [if_pos (by omega)]; done)
            refine z_goto C 0 dX7_closeAll_85 (by decide) ?_
            refine z_sub [0] (lv' := [(0, .ref (am))]) rfl ?_
            refine z_as (lv' := [(0, .ref (am))]) rfl rfl rfl ?_
            exact ih2 (n - 1) (w2) (hcl ▸ clP_next (n := n - 1) (by rw [show n - 1 + 1 = n by omega]; exact hP0)) hw2 (by rw [← hcl, ← hR, show n = (n - 1) + 1 by omega]; rfl) (by omega)
          · skip
            refine z_aload_n C 57 0 dX7_closeAll_56 rfl rfl ?_
            refine z_iload_n C 58 2 dX7_closeAll_57 rfl rfl ?_
            refine z_iload_n C 59 2 dX7_closeAll_58 rfl rfl ?_
            refine z_callSF (n' := 0) (k' := 0) (As := [.int (iI (r))]) (rest := [.int (iI (r)), .ref (am)]) C hκ hκl 62 (k7_none (r) ⟨by omega, by omega⟩) dX7_closeAll_59 q2242 q2243 q97 q2244 znX7_none (Nat.le_of_ble_eq_true rfl) (Nat.le_of_ble_eq_true rfl) (Nat.le_of_ble_eq_true rfl) (Nat.le_of_ble_eq_true rfl) rfl (Nat.le_of_ble_eq_true rfl) rfl rfl rfl ?_
            refine z_callVF0 (n' := 0) (k' := 0) (As := [.int (iI (r)), .long (lI (noneI (r)))]) (rest := []) C hκ hκl 65 (k7_comesTo hD hw1 (r) (noneI (r)) ⟨by omega, by omega⟩ (noneI_L _)) dX7_closeAll_62 q2540 q2542 qs85 q97 q2543 znX7_comesTo (Nat.le_of_ble_eq_true rfl) (Nat.le_of_ble_eq_true rfl) (Nat.le_of_ble_eq_true rfl) (Nat.le_of_ble_eq_true rfl) mrec rfl rfl (Nat.le_of_ble_eq_true rfl) rfl rfl rfl ?_
            obtain ⟨w3, ew3⟩ : ∃ wz, (mset (mset w1 49 0 (r)) 50 0 (noneI (r))) = wz := ⟨_, rfl⟩
            rw [ew3]
            have hw3 : mWF w3 := ew3 ▸ ((hw1.set ⟨by omega, by omega⟩ rfl).setL (noneI_L _) rfl rfl)
            refine z_goto C 85 dX7_closeAll_65 (by decide) ?_
            have hcl : clW1 w' = w3 := by unfold clW1 cmW; rw [hr0, ← ew3, ← ew1]; first | (rw [if_pos (by omega), show r = -1 by omega]; done) | (rw [if_neg (by omega), if_pos (by omega)]; done) | (rw [if_neg (by omega), if_neg (by omega), mset_k (by decide), mset_k (by decide)]; done) | (rw [if_pos (by omega)]; done)
            refine z_goto C 0 dX7_closeAll_85 (by decide) ?_
            refine z_sub [0] (lv' := [(0, .ref (am))]) rfl ?_
            refine z_as (lv' := [(0, .ref (am))]) rfl rfl rfl ?_
            exact ih2 (n - 1) (w3) (hcl ▸ clP_next (n := n - 1) (by rw [show n - 1 + 1 = n by omega]; exact hP0)) hw3 (by rw [← hcl, ← hR, show n = (n - 1) + 1 by omega]; rfl) (by omega)
        · skip
          refine z_aload_n C 40 0 dX7_closeAll_39 rfl rfl ?_
          refine z_iconst C 41 dX7_closeAll_40 rfl ?_
          refine z_lconst (x := 0) C 42 dX7_closeAll_41 rfl rfl ?_
          refine z_callVF0 (n' := 0) (k' := 0) (As := [.int (iI (-1)), .long (lI (0))]) (rest := []) C hκ hκl 45 (k7_comesTo hD hw1 (-1) (0) ⟨by decide, by decide⟩ ⟨by decide, by decide⟩) dX7_closeAll_42 q2540 q2542 qs85 q97 q2543 znX7_comesTo (Nat.le_of_ble_eq_true rfl) (Nat.le_of_ble_eq_true rfl) (Nat.le_of_ble_eq_true rfl) (Nat.le_of_ble_eq_true rfl) mrec rfl rfl (Nat.le_of_ble_eq_true rfl) rfl rfl rfl ?_
          obtain ⟨w4, ew4⟩ : ∃ wz, (mset (mset w1 49 0 (-1)) 50 0 (0)) = wz := ⟨_, rfl⟩
          rw [ew4]
          have hw4 : mWF w4 := ew4 ▸ ((hw1.set ⟨by decide, by decide⟩ rfl).setL ⟨by decide, by decide⟩ rfl rfl)
          refine z_goto C 85 dX7_closeAll_45 (by decide) ?_
          have hcl : clW1 w' = w4 := by unfold clW1 cmW; rw [hr0, ← ew4, ← ew1]; first | (rw [if_pos (by omega), show r = -1 by omega]; done) | (rw [if_neg (by omega), if_pos (by omega)]; done) | (rw [if_neg (by omega), if_neg (by omega), mset_k (by decide), mset_k (by decide)]; done) | (rw [if_pos (by omega)]; done)
          refine z_goto C 0 dX7_closeAll_85 (by decide) ?_
          refine z_sub [0] (lv' := [(0, .ref (am))]) rfl ?_
          refine z_as (lv' := [(0, .ref (am))]) rfl rfl rfl ?_
          exact ih2 (n - 1) (w4) (hcl ▸ clP_next (n := n - 1) (by rw [show n - 1 + 1 = n by omega]; exact hP0)) hw4 (by rw [← hcl, ← hR, show n = (n - 1) + 1 by omega]; rfl) (by omega)
  refine z_as (lv' := [(0, .ref (am))]) rfl rfl rfl ?_
  exact L0_1 _ ((w 45 0).toNat) (w) hP hw rfl (Nat.lt_succ_self _)
