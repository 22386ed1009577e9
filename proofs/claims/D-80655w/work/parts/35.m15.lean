/-! ===== the Model: what a body may be ===== -/
def nrm (w : mW) : mW := fun k i => if k < 40 ∨ 44 < k then w k i else 0
theorem nrm_eq {w w' : mW} (h : sR w w') : nrm w' = nrm w := by
  funext k i
  unfold nrm
  by_cases e : k < 40 ∨ 44 < k
  · rw [if_pos e, if_pos e, h k i e]
  · rw [if_neg e, if_neg e]
def bdB (w : mW) (m k x y : Int) : Bool :=
  if k = 0 then true else if k = 1 then ipB w m x else if k = 2 then fdB w x && reB w m x else if k = 3 then fdB w x && ipB w m y && reB w m x && giB w (w 19 (3 * m + y)) (w 17 x)
  else if k = 4 then decide (1 ≤ x ∧ x ≤ 8) else if k = 5 then mcF w m x else if k = 6 then inB w m x && inB w m y else if k = 7 then !hasB w m 4 && guB w m
  else ipB w m x && ipB w m y && decide (w 1 (w 19 (3 * m + x)) = 4) && decide (w 19 (3 * m + y) < 8) && wdB (w 19 (3 * m + y)) 4
def bdC (w : mW) (m k x y : Int) : Int :=
  if k = 1 then w 19 (3 * m + x) else if k = 2 then w 17 x else if k = 5 then w 17 x else if k = 6 then suI (w 19 (3 * m + x)) (w 19 (3 * m + y)) else if k = 8 then w 4 (w 19 (3 * m + x)) else -1
theorem R_of {α : Sort _} (F : mW → α) (hF : ∀ w, F (nrm w) = F w) {w w' : mW} (h : sR w w') : F w' = F w := by rw [← hF w', ← hF w, nrm_eq h]
theorem ipB_R {w w' : mW} (h : sR w w') (m i : Int) : ipB w' m i = ipB w m i := R_of (fun w => ipB w m i) (fun _ => rfl) h
theorem inB_R {w w' : mW} (h : sR w w') (m i : Int) : inB w' m i = inB w m i := R_of (fun w => inB w m i) (fun _ => rfl) h
theorem fdB_R {w w' : mW} (h : sR w w') (m : Int) : fdB w' m = fdB w m := R_of (fun w => fdB w m) (fun _ => rfl) h
theorem reB_R {w w' : mW} (h : sR w w') (m i : Int) : reB w' m i = reB w m i := R_of (fun w => reB w m i) (fun _ => rfl) h
theorem giB_R {w w' : mW} (h : sR w w') (m i : Int) : giB w' m i = giB w m i := R_of (fun w => giB w m i) (fun _ => rfl) h
theorem hasB_R {w w' : mW} (h : sR w w') (m i : Int) : hasB w' m i = hasB w m i := R_of (fun w => hasB w m i) (fun _ => rfl) h
theorem mcF_R {w w' : mW} (h : sR w w') (m i : Int) : mcF w' m i = mcF w m i := R_of (fun w => mcF w m i) (fun _ => rfl) h
theorem mcK_R {w w' : mW} (h : sR w w') (m i : Int) : mcK w' m i = mcK w m i := R_of (fun w => mcK w m i) (fun _ => rfl) h
theorem guN_R {w w' : mW} (h : sR w w') (m : Int) : guN w' m = guN w m := R_of (fun w => guN w m) (fun _ => rfl) h
theorem guB_R {w w' : mW} (h : sR w w') (m : Int) : guB w' m = guB w m := R_of (fun w => guB w m) (fun _ => rfl) h
theorem mS_R {w w' : mW} (h : sR w w') (hS : mS w) : mS w' := by rw [R_of mS (fun _ => rfl) h]; exact hS
theorem sR.trans {w w' w'' : mW} (h : sR w w') (h' : sR w' w'') : sR w w'' := fun k i a => (h' k i a).trans (h k i a)
theorem gu_st {w w1 w2 : mW} (q : sR w w1) {m : Int} (h : sR (if guB w1 m then mset w1 25 m (guN w1 m) else w1) w2) : sR (if guB w m then mset w 25 m (guN w m) else w) w2 := by
  rw [guB_R q, guN_R q] at h
  refine sR.trans ?_ h
  split
  · exact q.both
  · exact q

set_option maxRecDepth 100000 in
theorem k7_mayBody {l : Launch} {θ : zTh} {N : zMap} {am : Nat} {ar : Nat → Nat} {w : mW} (hD : mDis am ar) (hw : mWF w) (m : Int) (k : Int) (x : Int) (y : Int) (r_m : inR m) (r_k : inR k) (r_x : inR x) (r_y : inR y) (hS : mS w) (hm : 0 ≤ m ∧ m < w 11 0) (h17 : ∀ m, 0 ≤ m → m < w 11 0 → w 16 m = 1 → 0 ≤ w 17 m) (hk : 0 ≤ k ∧ k ≤ 8) : ZM θ l yX7_mayBody cX7_mayBody 7 (some .boolean) ⟨4, 0, 0, 96⟩ [.ref (am), .int (iI (m)), .int (iI (k)), .int (iI (x)), .int (iI (y))] (mP θ am ar w N) (fun v Q => ∃ (r : Bool) (w' : mW), v = some (.int (iI (bI r))) ∧ Q = mP θ am ar w' N ∧ mWF w' ∧ (r = bdB w m k x y ∧ (r = true → w' 44 0 = bdC w m k x y) ∧ sR (if k = 7 ∧ r = true then mset w 25 m (guN w m) else w) w')) := by
  refine z_start (own := RX7) (nm := "mayBody") pnX7 rfl rfl (Nat.le_of_ble_eq_true rfl) ?_
  intro κ hκ hκl C
  change Z κ (mP θ am ar w N) 0 0 0 [(0, .ref (am)), (1, .int (iI (m))), (2, .int (iI (k))), (3, .int (iI (x))), (4, .int (iI (y)))] []
  have hB := hS.B
  obtain ⟨hB1, hB2, hB3, hB4, hB5, hB6⟩ := hS.B
  have hC := hS.C
  refine z_aload_n C 1 0 dX7_mayBody_0 rfl rfl ?_
  refine z_iconst C 2 dX7_mayBody_1 rfl ?_
  obtain ⟨w1, ew1⟩ : ∃ wz, mset w 44 (0) (-1) = wz := ⟨_, rfl⟩
  have hw1 : mWF w1 := ew1 ▸ hw.set ⟨by decide, by decide⟩ rfl
  refine m_puti (w' := w1) C hκ 5 44 (by decide) (by decide) rfl q2039 rfl rfl rfl rfl dX7_mayBody_2 rfl ew1 ?_
  have c44_1 := (congrFun (congrFun ew1 44) 0).symm.trans mset_s
  have q2 : sR w w1 := (by rw [← ew1]; exact sR.refl.set (by omega))
  have q2_19 : ∀ i, w1 19 i = w 19 i := fun i => q2 19 i (Or.inl (by decide))
  have q2_17 : ∀ i, w1 17 i = w 17 i := fun i => q2 17 i (Or.inl (by decide))
  have q2_1 : ∀ i, w1 1 i = w 1 i := fun i => q2 1 i (Or.inl (by decide))
  have q2_4 : ∀ i, w1 4 i = w 4 i := fun i => q2 4 i (Or.inl (by decide))
  have q2_18 : ∀ i, w1 18 i = w 18 i := fun i => q2 18 i (Or.inl (by decide))
  have q2_13 : ∀ i, w1 13 i = w 13 i := fun i => q2 13 i (Or.inl (by decide))
  have q2_11 : ∀ i, w1 11 i = w 11 i := fun i => q2 11 i (Or.inl (by decide))
  have q2_16 : ∀ i, w1 16 i = w 16 i := fun i => q2 16 i (Or.inl (by decide))
  have q2_0 : ∀ i, w1 0 i = w 0 i := fun i => q2 0 i (Or.inl (by decide))
  have q2_S := mS_R q2 hS
  have q2_r := fun i => q2_0 i; have q2_t := q2_0 0; have q2_u := q2_11 0
  obtain ⟨q2a, q2b, q2c, q2d⟩ := q2_S.M (m := m) (by omega) (by omega)
  have hm1 : 0 ≤ m ∧ m < w1 11 0 := by omega
  refine z_iload_n C 6 2 dX7_mayBody_5 rfl rfl ?_
  have c3r : inR (k) := r_k
  rcases (show k = 0 ∨ k = 1 ∨ k = 2 ∨ k = 3 ∨ k = 4 ∨ k = 5 ∨ k = 6 ∨ k = 7 ∨ (k < 0 ∨ 7 < k) by omega) with c3 | c3 | c3 | c3 | c3 | c3 | c3 | c3 | c3
  · skip
    refine z_tsIn C (k) 52 (off := 46) dX7_mayBody_6 c3r (by omega) (by omega) (by rw [c3]; rfl) (by decide) ?_
    refine z_iconst C 53 dX7_mayBody_52 rfl ?_
    refine z_as (st' := [.int (iI (bI (true)))]) rfl rfl rfl ?_
    exact z_iret C dX7_mayBody_53 (bI_nar _) (Nat.le_of_ble_eq_true rfl) (Nat.le_of_ble_eq_true rfl) ⟨_, _, rfl, rfl, hw1, (by clear C hκ hκl; unfold bdB; first | ((try simp only [ipB_R q2, inB_R q2, fdB_R q2, reB_R q2, giB_R q2, hasB_R q2, mcF_R q2, mcK_R q2, guB_R q2, q2_19, q2_17, q2_1, q2_4] at *); simp_all; done) | ((try simp only [ipB_R q2, inB_R q2, fdB_R q2, reB_R q2, giB_R q2, hasB_R q2, mcF_R q2, mcK_R q2, guB_R q2, q2_19, q2_17, q2_1, q2_4] at *); grind)), (fun hb9 => by clear C hκ hκl; unfold bdC; first | ((try simp only [ipB_R q2, inB_R q2, fdB_R q2, reB_R q2, giB_R q2, hasB_R q2, mcF_R q2, mcK_R q2, guB_R q2, q2_19, q2_17, q2_1, q2_4] at *); simp_all; done) | ((try simp only [ipB_R q2, inB_R q2, fdB_R q2, reB_R q2, giB_R q2, hasB_R q2, mcF_R q2, mcK_R q2, guB_R q2, q2_19, q2_17, q2_1, q2_4] at *); grind)), (by first | (rw [if_neg (by simp_all)]; exact q2) | (exact sR.refl))⟩
  · skip
    refine z_tsIn C (k) 54 (off := 48) dX7_mayBody_6 c3r (by omega) (by omega) (by rw [c3]; rfl) (by decide) ?_
    refine z_aload_n C 55 0 dX7_mayBody_54 rfl rfl ?_
    refine z_aload_n C 56 0 dX7_mayBody_55 rfl rfl ?_
    refine z_iload_n C 57 1 dX7_mayBody_56 rfl rfl ?_
    refine z_iload_n C 58 3 dX7_mayBody_57 rfl rfl ?_
    refine z_callVF (n' := 0) (k' := 0) (As := [.int (iI (m)), .int (iI (x))]) (rest := [.ref (am)]) C hκ hκl 61 (k7_isParam hD hw1 (m) (x) r_m r_x q2_S (by omega)) dX7_mayBody_58 q2497 q2499 qs76 q97 q2500 znX7_isParam (Nat.le_of_ble_eq_true rfl) (Nat.le_of_ble_eq_true rfl) (Nat.le_of_ble_eq_true rfl) (Nat.le_of_ble_eq_true rfl) mrec rfl rfl (Nat.le_of_ble_eq_true rfl) rfl rfl rfl ?_
    refine z_ifB_eq C 77 64 dX7_mayBody_61 (by decide) rfl (fun c4 => ?_) (fun c4 => ?_)
    · skip
      have c4b : ¬ (0 ≤ (x) ∧ (x) < w1 18 (m)) := of_decide_eq_false c4
      refine z_iconst C 78 dX7_mayBody_77 rfl ?_
      obtain ⟨w2, ew2⟩ : ∃ wz, mset w1 44 (0) (-1) = wz := ⟨_, rfl⟩
      have hw2 : mWF w2 := ew2 ▸ hw1.set ⟨by decide, by decide⟩ rfl
      refine m_puti (w' := w2) C hκ 81 44 (by decide) (by decide) rfl q2039 rfl rfl rfl rfl dX7_mayBody_78 rfl ew2 ?_
      have c44_5 := (congrFun (congrFun ew2 44) 0).symm.trans mset_s
      have q6 : sR w w2 := (by rw [← ew2]; exact q2.set (by omega))
      have q6_19 : ∀ i, w2 19 i = w 19 i := fun i => q6 19 i (Or.inl (by decide))
      have q6_17 : ∀ i, w2 17 i = w 17 i := fun i => q6 17 i (Or.inl (by decide))
      have q6_1 : ∀ i, w2 1 i = w 1 i := fun i => q6 1 i (Or.inl (by decide))
      have q6_4 : ∀ i, w2 4 i = w 4 i := fun i => q6 4 i (Or.inl (by decide))
      have q6_18 : ∀ i, w2 18 i = w 18 i := fun i => q6 18 i (Or.inl (by decide))
      have q6_13 : ∀ i, w2 13 i = w 13 i := fun i => q6 13 i (Or.inl (by decide))
      have q6_11 : ∀ i, w2 11 i = w 11 i := fun i => q6 11 i (Or.inl (by decide))
      have q6_16 : ∀ i, w2 16 i = w 16 i := fun i => q6 16 i (Or.inl (by decide))
      have q6_0 : ∀ i, w2 0 i = w 0 i := fun i => q6 0 i (Or.inl (by decide))
      have q6_S := mS_R q6 hS
      have q6_r := fun i => q6_0 i; have q6_t := q6_0 0; have q6_u := q6_11 0
      obtain ⟨q6a, q6b, q6c, q6d⟩ := q6_S.M (m := m) (by omega) (by omega)
      refine z_aload_n C 82 0 dX7_mayBody_81 rfl rfl ?_
      refine z_iload_n C 83 1 dX7_mayBody_82 rfl rfl ?_
      refine z_iload_n C 84 3 dX7_mayBody_83 rfl rfl ?_
      refine z_callVF (n' := 0) (k' := 0) (As := [.int (iI (m)), .int (iI (x))]) (rest := []) C hκ hκl 87 (k7_isParam hD hw2 (m) (x) r_m r_x q6_S (by omega)) dX7_mayBody_84 q2497 q2499 qs76 q97 q2500 znX7_isParam (Nat.le_of_ble_eq_true rfl) (Nat.le_of_ble_eq_true rfl) (Nat.le_of_ble_eq_true rfl) (Nat.le_of_ble_eq_true rfl) mrec rfl rfl (Nat.le_of_ble_eq_true rfl) rfl rfl rfl ?_
      exact z_iret C dX7_mayBody_87 (bI_nar _) (Nat.le_of_ble_eq_true rfl) (Nat.le_of_ble_eq_true rfl) ⟨_, _, rfl, rfl, hw2, (by clear C hκ hκl; unfold bdB; first | ((try simp only [ipB_R q2, inB_R q2, fdB_R q2, reB_R q2, giB_R q2, hasB_R q2, mcF_R q2, mcK_R q2, guB_R q2, q2_19, q2_17, q2_1, q2_4] at *); (try simp only [ipB_R q6, inB_R q6, fdB_R q6, reB_R q6, giB_R q6, hasB_R q6, mcF_R q6, mcK_R q6, guB_R q6, q6_19, q6_17, q6_1, q6_4] at *); simp_all; done) | ((try simp only [ipB_R q2, inB_R q2, fdB_R q2, reB_R q2, giB_R q2, hasB_R q2, mcF_R q2, mcK_R q2, guB_R q2, q2_19, q2_17, q2_1, q2_4] at *); (try simp only [ipB_R q6, inB_R q6, fdB_R q6, reB_R q6, giB_R q6, hasB_R q6, mcF_R q6, mcK_R q6, guB_R q6, q6_19, q6_17, q6_1, q6_4] at *); grind)), (fun hb9 => by clear C hκ hκl; unfold bdC; first | ((try simp only [ipB_R q2, inB_R q2, fdB_R q2, reB_R q2, giB_R q2, hasB_R q2, mcF_R q2, mcK_R q2, guB_R q2, q2_19, q2_17, q2_1, q2_4] at *); (try simp only [ipB_R q6, inB_R q6, fdB_R q6, reB_R q6, giB_R q6, hasB_R q6, mcF_R q6, mcK_R q6, guB_R q6, q6_19, q6_17, q6_1, q6_4] at *); simp_all; done) | ((try simp only [ipB_R q2, inB_R q2, fdB_R q2, reB_R q2, giB_R q2, hasB_R q2, mcF_R q2, mcK_R q2, guB_R q2, q2_19, q2_17, q2_1, q2_4] at *); (try simp only [ipB_R q6, inB_R q6, fdB_R q6, reB_R q6, giB_R q6, hasB_R q6, mcF_R q6, mcK_R q6, guB_R q6, q6_19, q6_17, q6_1, q6_4] at *); grind)), (by first | (rw [if_neg (by simp_all)]; exact q6) | (exact sR.refl))⟩
    · skip
      have c4b : (0 ≤ (x) ∧ (x) < w1 18 (m)) := of_decide_eq_true c4
      refine z_aload_n C 65 0 dX7_mayBody_64 rfl rfl ?_
      refine m_geta C hκ 68 19 (by decide) rfl q2014 rfl dX7_mayBody_65 rfl ?_
      refine z_iconst C 69 dX7_mayBody_68 rfl ?_
      refine z_iload_n C 70 1 dX7_mayBody_69 rfl rfl ?_
      refine z_imul C 71 dX7_mayBody_70 rfl ?_
      refine z_iload_n C 72 3 dX7_mayBody_71 rfl rfl ?_
      refine z_iadd C 73 dX7_mayBody_72 rfl ?_
      refine m_iald (len := 300) C hκ hD 74 19 (by decide) rfl rfl (by omega) (by omega) dX7_mayBody_73 rfl ?_
      refine z_goto C 78 dX7_mayBody_74 (by decide) ?_
      obtain ⟨w3, ew3⟩ : ∃ wz, mset w1 44 (0) (w1 19 (((3) * (m)) + (x))) = wz := ⟨_, rfl⟩
      have hw3 : mWF w3 := ew3 ▸ hw1.set (hw1.r _ _ rfl) rfl
      refine m_puti (w' := w3) C hκ 81 44 (by decide) (by decide) rfl q2039 rfl rfl rfl rfl dX7_mayBody_78 rfl ew3 ?_
      have c44_7 := (congrFun (congrFun ew3 44) 0).symm.trans mset_s
      have q8 : sR w w3 := (by rw [← ew3]; exact q2.set (by omega))
      have q8_19 : ∀ i, w3 19 i = w 19 i := fun i => q8 19 i (Or.inl (by decide))
      have q8_17 : ∀ i, w3 17 i = w 17 i := fun i => q8 17 i (Or.inl (by decide))
      have q8_1 : ∀ i, w3 1 i = w 1 i := fun i => q8 1 i (Or.inl (by decide))
      have q8_4 : ∀ i, w3 4 i = w 4 i := fun i => q8 4 i (Or.inl (by decide))
      have q8_18 : ∀ i, w3 18 i = w 18 i := fun i => q8 18 i (Or.inl (by decide))
      have q8_13 : ∀ i, w3 13 i = w 13 i := fun i => q8 13 i (Or.inl (by decide))
      have q8_11 : ∀ i, w3 11 i = w 11 i := fun i => q8 11 i (Or.inl (by decide))
      have q8_16 : ∀ i, w3 16 i = w 16 i := fun i => q8 16 i (Or.inl (by decide))
      have q8_0 : ∀ i, w3 0 i = w 0 i := fun i => q8 0 i (Or.inl (by decide))
      have q8_S := mS_R q8 hS
      have q8_r := fun i => q8_0 i; have q8_t := q8_0 0; have q8_u := q8_11 0
      obtain ⟨q8a, q8b, q8c, q8d⟩ := q8_S.M (m := m) (by omega) (by omega)
      refine z_aload_n C 82 0 dX7_mayBody_81 rfl rfl ?_
      refine z_iload_n C 83 1 dX7_mayBody_82 rfl rfl ?_
      refine z_iload_n C 84 3 dX7_mayBody_83 rfl rfl ?_
      refine z_callVF (n' := 0) (k' := 0) (As := [.int (iI (m)), .int (iI (x))]) (rest := []) C hκ hκl 87 (k7_isParam hD hw3 (m) (x) r_m r_x q8_S (by omega)) dX7_mayBody_84 q2497 q2499 qs76 q97 q2500 znX7_isParam (Nat.le_of_ble_eq_true rfl) (Nat.le_of_ble_eq_true rfl) (Nat.le_of_ble_eq_true rfl) (Nat.le_of_ble_eq_true rfl) mrec rfl rfl (Nat.le_of_ble_eq_true rfl) rfl rfl rfl ?_
      exact z_iret C dX7_mayBody_87 (bI_nar _) (Nat.le_of_ble_eq_true rfl) (Nat.le_of_ble_eq_true rfl) ⟨_, _, rfl, rfl, hw3, (by clear C hκ hκl; unfold bdB; first | ((try simp only [ipB_R q2, inB_R q2, fdB_R q2, reB_R q2, giB_R q2, hasB_R q2, mcF_R q2, mcK_R q2, guB_R q2, q2_19, q2_17, q2_1, q2_4] at *); (try simp only [ipB_R q8, inB_R q8, fdB_R q8, reB_R q8, giB_R q8, hasB_R q8, mcF_R q8, mcK_R q8, guB_R q8, q8_19, q8_17, q8_1, q8_4] at *); simp_all; done) | ((try simp only [ipB_R q2, inB_R q2, fdB_R q2, reB_R q2, giB_R q2, hasB_R q2, mcF_R q2, mcK_R q2, guB_R q2, q2_19, q2_17, q2_1, q2_4] at *); (try simp only [ipB_R q8, inB_R q8, fdB_R q8, reB_R q8, giB_R q8, hasB_R q8, mcF_R q8, mcK_R q8, guB_R q8, q8_19, q8_17, q8_1, q8_4] at *); grind)), (fun hb9 => by clear C hκ hκl; unfold bdC; first | ((try simp only [ipB_R q2, inB_R q2, fdB_R q2, reB_R q2, giB_R q2, hasB_R q2, mcF_R q2, mcK_R q2, guB_R q2, q2_19, q2_17, q2_1, q2_4] at *); (try simp only [ipB_R q8, inB_R q8, fdB_R q8, reB_R q8, giB_R q8, hasB_R q8, mcF_R q8, mcK_R q8, guB_R q8, q8_19, q8_17, q8_1, q8_4] at *); simp_all; done) | ((try simp only [ipB_R q2, inB_R q2, fdB_R q2, reB_R q2, giB_R q2, hasB_R q2, mcF_R q2, mcK_R q2, guB_R q2, q2_19, q2_17, q2_1, q2_4] at *); (try simp only [ipB_R q8, inB_R q8, fdB_R q8, reB_R q8, giB_R q8, hasB_R q8, mcF_R q8, mcK_R q8, guB_R q8, q8_19, q8_17, q8_1, q8_4] at *); grind)), (by first | (rw [if_neg (by simp_all)]; exact q8) | (exact sR.refl))⟩
  · skip
    refine z_tsIn C (k) 88 (off := 82) dX7_mayBody_6 c3r (by omega) (by omega) (by rw [c3]; rfl) (by decide) ?_
    refine z_aload_n C 89 0 dX7_mayBody_88 rfl rfl ?_
    refine z_aload_n C 90 0 dX7_mayBody_89 rfl rfl ?_
    refine z_iload_n C 91 3 dX7_mayBody_90 rfl rfl ?_
    refine z_callVF (n' := 0) (k' := 0) (As := [.int (iI (x))]) (rest := [.ref (am)]) C hκ hκl 94 (k7_isFieldAt hD hw1 (x) r_x q2_S.B) dX7_mayBody_91 q2413 q2415 qs69 q97 q2416 znX7_isFieldAt (Nat.le_of_ble_eq_true rfl) (Nat.le_of_ble_eq_true rfl) (Nat.le_of_ble_eq_true rfl) (Nat.le_of_ble_eq_true rfl) mrec rfl rfl (Nat.le_of_ble_eq_true rfl) rfl rfl rfl ?_
    refine z_ifB_eq C 106 97 dX7_mayBody_94 (by decide) rfl (fun c9 => ?_) (fun c9 => ?_)
    · skip
      have c9b : ¬ (0 ≤ (x) ∧ (x) < w1 11 0 ∧ w1 16 (x) = 1) := of_decide_eq_false c9
      refine z_iconst C 107 dX7_mayBody_106 rfl ?_
      obtain ⟨w4, ew4⟩ : ∃ wz, mset w1 44 (0) (-1) = wz := ⟨_, rfl⟩
      have hw4 : mWF w4 := ew4 ▸ hw1.set ⟨by decide, by decide⟩ rfl
      refine m_puti (w' := w4) C hκ 110 44 (by decide) (by decide) rfl q2039 rfl rfl rfl rfl dX7_mayBody_107 rfl ew4 ?_
      have c44_10 := (congrFun (congrFun ew4 44) 0).symm.trans mset_s
      have q11 : sR w w4 := (by rw [← ew4]; exact q2.set (by omega))
      have q11_19 : ∀ i, w4 19 i = w 19 i := fun i => q11 19 i (Or.inl (by decide))
      have q11_17 : ∀ i, w4 17 i = w 17 i := fun i => q11 17 i (Or.inl (by decide))
      have q11_1 : ∀ i, w4 1 i = w 1 i := fun i => q11 1 i (Or.inl (by decide))
      have q11_4 : ∀ i, w4 4 i = w 4 i := fun i => q11 4 i (Or.inl (by decide))
      have q11_18 : ∀ i, w4 18 i = w 18 i := fun i => q11 18 i (Or.inl (by decide))
      have q11_13 : ∀ i, w4 13 i = w 13 i := fun i => q11 13 i (Or.inl (by decide))
      have q11_11 : ∀ i, w4 11 i = w 11 i := fun i => q11 11 i (Or.inl (by decide))
      have q11_16 : ∀ i, w4 16 i = w 16 i := fun i => q11 16 i (Or.inl (by decide))
      have q11_0 : ∀ i, w4 0 i = w 0 i := fun i => q11 0 i (Or.inl (by decide))
      have q11_S := mS_R q11 hS
      have q11_r := fun i => q11_0 i; have q11_t := q11_0 0; have q11_u := q11_11 0
      obtain ⟨q11a, q11b, q11c, q11d⟩ := q11_S.M (m := m) (by omega) (by omega)
      refine z_aload_n C 111 0 dX7_mayBody_110 rfl rfl ?_
      refine z_iload_n C 112 3 dX7_mayBody_111 rfl rfl ?_
      refine z_callVF (n' := 0) (k' := 0) (As := [.int (iI (x))]) (rest := []) C hκ hκl 115 (k7_isFieldAt hD hw4 (x) r_x q11_S.B) dX7_mayBody_112 q2413 q2415 qs69 q97 q2416 znX7_isFieldAt (Nat.le_of_ble_eq_true rfl) (Nat.le_of_ble_eq_true rfl) (Nat.le_of_ble_eq_true rfl) (Nat.le_of_ble_eq_true rfl) mrec rfl rfl (Nat.le_of_ble_eq_true rfl) rfl rfl rfl ?_
      refine z_ifB_eq C 131 118 dX7_mayBody_115 (by decide) rfl (fun c12 => ?_) (fun c12 => ?_)
      · skip
        have c12b : ¬ (0 ≤ (x) ∧ (x) < w4 11 0 ∧ w4 16 (x) = 1) := of_decide_eq_false c12
        refine z_iconst C 132 dX7_mayBody_131 rfl ?_
        refine z_as (st' := [.int (iI (bI (false)))]) rfl rfl rfl ?_
        exact z_iret C dX7_mayBody_132 (bI_nar _) (Nat.le_of_ble_eq_true rfl) (Nat.le_of_ble_eq_true rfl) ⟨_, _, rfl, rfl, hw4, (by clear C hκ hκl; unfold bdB; first | ((try simp only [ipB_R q2, inB_R q2, fdB_R q2, reB_R q2, giB_R q2, hasB_R q2, mcF_R q2, mcK_R q2, guB_R q2, q2_19, q2_17, q2_1, q2_4] at *); (try simp only [ipB_R q11, inB_R q11, fdB_R q11, reB_R q11, giB_R q11, hasB_R q11, mcF_R q11, mcK_R q11, guB_R q11, q11_19, q11_17, q11_1, q11_4] at *); simp_all; done) | ((try simp only [ipB_R q2, inB_R q2, fdB_R q2, reB_R q2, giB_R q2, hasB_R q2, mcF_R q2, mcK_R q2, guB_R q2, q2_19, q2_17, q2_1, q2_4] at *); (try simp only [ipB_R q11, inB_R q11, fdB_R q11, reB_R q11, giB_R q11, hasB_R q11, mcF_R q11, mcK_R q11, guB_R q11, q11_19, q11_17, q11_1, q11_4] at *); grind)), (fun hb9 => by clear C hκ hκl; unfold bdC; first | ((try simp only [ipB_R q2, inB_R q2, fdB_R q2, reB_R q2, giB_R q2, hasB_R q2, mcF_R q2, mcK_R q2, guB_R q2, q2_19, q2_17, q2_1, q2_4] at *); (try simp only [ipB_R q11, inB_R q11, fdB_R q11, reB_R q11, giB_R q11, hasB_R q11, mcF_R q11, mcK_R q11, guB_R q11, q11_19, q11_17, q11_1, q11_4] at *); simp_all; done) | ((try simp only [ipB_R q2, inB_R q2, fdB_R q2, reB_R q2, giB_R q2, hasB_R q2, mcF_R q2, mcK_R q2, guB_R q2, q2_19, q2_17, q2_1, q2_4] at *); (try simp only [ipB_R q11, inB_R q11, fdB_R q11, reB_R q11, giB_R q11, hasB_R q11, mcF_R q11, mcK_R q11, guB_R q11, q11_19, q11_17, q11_1, q11_4] at *); grind)), (by first | (rw [if_neg (by simp_all)]; exact q11) | (exact sR.refl))⟩
      · skip
        have c12b : (0 ≤ (x) ∧ (x) < w4 11 0 ∧ w4 16 (x) = 1) := of_decide_eq_true c12
        refine z_aload_n C 119 0 dX7_mayBody_118 rfl rfl ?_
        refine z_iload_n C 120 1 dX7_mayBody_119 rfl rfl ?_
        refine z_iload_n C 121 3 dX7_mayBody_120 rfl rfl ?_
        refine z_callVF (n' := 0) (k' := 0) (As := [.int (iI (m)), .int (iI (x))]) (rest := []) C hκ hκl 124 (k7_reaches hD hw4 (m) (x) r_m r_x q11_S (by omega) (by omega)) dX7_mayBody_121 q2501 q2503 qs77 q97 q2504 znX7_reaches (Nat.le_of_ble_eq_true rfl) (Nat.le_of_ble_eq_true rfl) (Nat.le_of_ble_eq_true rfl) (Nat.le_of_ble_eq_true rfl) mrec rfl rfl (Nat.le_of_ble_eq_true rfl) rfl rfl rfl ?_
        refine z_ifB_eq C 131 127 dX7_mayBody_124 (by decide) rfl (fun c13 => ?_) (fun c13 => ?_)
        · skip
          refine z_iconst C 132 dX7_mayBody_131 rfl ?_
          refine z_as (st' := [.int (iI (bI (false)))]) rfl rfl rfl ?_
          exact z_iret C dX7_mayBody_132 (bI_nar _) (Nat.le_of_ble_eq_true rfl) (Nat.le_of_ble_eq_true rfl) ⟨_, _, rfl, rfl, hw4, (by clear C hκ hκl; unfold bdB; first | ((try simp only [ipB_R q2, inB_R q2, fdB_R q2, reB_R q2, giB_R q2, hasB_R q2, mcF_R q2, mcK_R q2, guB_R q2, q2_19, q2_17, q2_1, q2_4] at *); (try simp only [ipB_R q11, inB_R q11, fdB_R q11, reB_R q11, giB_R q11, hasB_R q11, mcF_R q11, mcK_R q11, guB_R q11, q11_19, q11_17, q11_1, q11_4] at *); simp_all; done) | ((try simp only [ipB_R q2, inB_R q2, fdB_R q2, reB_R q2, giB_R q2, hasB_R q2, mcF_R q2, mcK_R q2, guB_R q2, q2_19, q2_17, q2_1, q2_4] at *); (try simp only [ipB_R q11, inB_R q11, fdB_R q11, reB_R q11, giB_R q11, hasB_R q11, mcF_R q11, mcK_R q11, guB_R q11, q11_19, q11_17, q11_1, q11_4] at *); grind)), (fun hb9 => by clear C hκ hκl; unfold bdC; first | ((try simp only [ipB_R q2, inB_R q2, fdB_R q2, reB_R q2, giB_R q2, hasB_R q2, mcF_R q2, mcK_R q2, guB_R q2, q2_19, q2_17, q2_1, q2_4] at *); (try simp only [ipB_R q11, inB_R q11, fdB_R q11, reB_R q11, giB_R q11, hasB_R q11, mcF_R q11, mcK_R q11, guB_R q11, q11_19, q11_17, q11_1, q11_4] at *); simp_all; done) | ((try simp only [ipB_R q2, inB_R q2, fdB_R q2, reB_R q2, giB_R q2, hasB_R q2, mcF_R q2, mcK_R q2, guB_R q2, q2_19, q2_17, q2_1, q2_4] at *); (try simp only [ipB_R q11, inB_R q11, fdB_R q11, reB_R q11, giB_R q11, hasB_R q11, mcF_R q11, mcK_R q11, guB_R q11, q11_19, q11_17, q11_1, q11_4] at *); grind)), (by first | (rw [if_neg (by simp_all)]; exact q11) | (exact sR.refl))⟩
        · skip
          refine z_iconst C 128 dX7_mayBody_127 rfl ?_
          refine z_goto C 132 dX7_mayBody_128 (by decide) ?_
          refine z_as (st' := [.int (iI (bI (true)))]) rfl rfl rfl ?_
          exact z_iret C dX7_mayBody_132 (bI_nar _) (Nat.le_of_ble_eq_true rfl) (Nat.le_of_ble_eq_true rfl) ⟨_, _, rfl, rfl, hw4, (by clear C hκ hκl; unfold bdB; first | ((try simp only [ipB_R q2, inB_R q2, fdB_R q2, reB_R q2, giB_R q2, hasB_R q2, mcF_R q2, mcK_R q2, guB_R q2, q2_19, q2_17, q2_1, q2_4] at *); (try simp only [ipB_R q11, inB_R q11, fdB_R q11, reB_R q11, giB_R q11, hasB_R q11, mcF_R q11, mcK_R q11, guB_R q11, q11_19, q11_17, q11_1, q11_4] at *); simp_all; done) | ((try simp only [ipB_R q2, inB_R q2, fdB_R q2, reB_R q2, giB_R q2, hasB_R q2, mcF_R q2, mcK_R q2, guB_R q2, q2_19, q2_17, q2_1, q2_4] at *); (try simp only [ipB_R q11, inB_R q11, fdB_R q11, reB_R q11, giB_R q11, hasB_R q11, mcF_R q11, mcK_R q11, guB_R q11, q11_19, q11_17, q11_1, q11_4] at *); grind)), (fun hb9 => by clear C hκ hκl; unfold bdC; first | ((try simp only [ipB_R q2, inB_R q2, fdB_R q2, reB_R q2, giB_R q2, hasB_R q2, mcF_R q2, mcK_R q2, guB_R q2, q2_19, q2_17, q2_1, q2_4] at *); (try simp only [ipB_R q11, inB_R q11, fdB_R q11, reB_R q11, giB_R q11, hasB_R q11, mcF_R q11, mcK_R q11, guB_R q11, q11_19, q11_17, q11_1, q11_4] at *); simp_all; done) | ((try simp only [ipB_R q2, inB_R q2, fdB_R q2, reB_R q2, giB_R q2, hasB_R q2, mcF_R q2, mcK_R q2, guB_R q2, q2_19, q2_17, q2_1, q2_4] at *); (try simp only [ipB_R q11, inB_R q11, fdB_R q11, reB_R q11, giB_R q11, hasB_R q11, mcF_R q11, mcK_R q11, guB_R q11, q11_19, q11_17, q11_1, q11_4] at *); grind)), (by first | (rw [if_neg (by simp_all)]; exact q11) | (exact sR.refl))⟩
    · skip
      have c9b : (0 ≤ (x) ∧ (x) < w1 11 0 ∧ w1 16 (x) = 1) := of_decide_eq_true c9
      refine z_aload_n C 98 0 dX7_mayBody_97 rfl rfl ?_
      refine m_geta C hκ 101 17 (by decide) rfl q2012 rfl dX7_mayBody_98 rfl ?_
      refine z_iload_n C 102 3 dX7_mayBody_101 rfl rfl ?_
      obtain ⟨f14a, f14b, f14c, f14d⟩ := q2_S.M (show 0 ≤ x by omega) (by omega)
      refine m_iald (len := 100) C hκ hD 103 17 (by decide) rfl rfl (by omega) (by omega) dX7_mayBody_102 rfl ?_
      refine z_goto C 107 dX7_mayBody_103 (by decide) ?_
      obtain ⟨w5, ew5⟩ : ∃ wz, mset w1 44 (0) (w1 17 (x)) = wz := ⟨_, rfl⟩
      have hw5 : mWF w5 := ew5 ▸ hw1.set (hw1.r _ _ rfl) rfl
      refine m_puti (w' := w5) C hκ 110 44 (by decide) (by decide) rfl q2039 rfl rfl rfl rfl dX7_mayBody_107 rfl ew5 ?_
      have c44_15 := (congrFun (congrFun ew5 44) 0).symm.trans mset_s
      have q16 : sR w w5 := (by rw [← ew5]; exact q2.set (by omega))
      have q16_19 : ∀ i, w5 19 i = w 19 i := fun i => q16 19 i (Or.inl (by decide))
      have q16_17 : ∀ i, w5 17 i = w 17 i := fun i => q16 17 i (Or.inl (by decide))
      have q16_1 : ∀ i, w5 1 i = w 1 i := fun i => q16 1 i (Or.inl (by decide))
      have q16_4 : ∀ i, w5 4 i = w 4 i := fun i => q16 4 i (Or.inl (by decide))
      have q16_18 : ∀ i, w5 18 i = w 18 i := fun i => q16 18 i (Or.inl (by decide))
      have q16_13 : ∀ i, w5 13 i = w 13 i := fun i => q16 13 i (Or.inl (by decide))
      have q16_11 : ∀ i, w5 11 i = w 11 i := fun i => q16 11 i (Or.inl (by decide))
      have q16_16 : ∀ i, w5 16 i = w 16 i := fun i => q16 16 i (Or.inl (by decide))
      have q16_0 : ∀ i, w5 0 i = w 0 i := fun i => q16 0 i (Or.inl (by decide))
      have q16_S := mS_R q16 hS
      have q16_r := fun i => q16_0 i; have q16_t := q16_0 0; have q16_u := q16_11 0
      obtain ⟨q16a, q16b, q16c, q16d⟩ := q16_S.M (m := m) (by omega) (by omega)
      refine z_aload_n C 111 0 dX7_mayBody_110 rfl rfl ?_
      refine z_iload_n C 112 3 dX7_mayBody_111 rfl rfl ?_
      refine z_callVF (n' := 0) (k' := 0) (As := [.int (iI (x))]) (rest := []) C hκ hκl 115 (k7_isFieldAt hD hw5 (x) r_x q16_S.B) dX7_mayBody_112 q2413 q2415 qs69 q97 q2416 znX7_isFieldAt (Nat.le_of_ble_eq_true rfl) (Nat.le_of_ble_eq_true rfl) (Nat.le_of_ble_eq_true rfl) (Nat.le_of_ble_eq_true rfl) mrec rfl rfl (Nat.le_of_ble_eq_true rfl) rfl rfl rfl ?_
      refine z_ifB_eq C 131 118 dX7_mayBody_115 (by decide) rfl (fun c17 => ?_) (fun c17 => ?_)
      · skip
        have c17b : ¬ (0 ≤ (x) ∧ (x) < w5 11 0 ∧ w5 16 (x) = 1) := of_decide_eq_false c17
        refine z_iconst C 132 dX7_mayBody_131 rfl ?_
        refine z_as (st' := [.int (iI (bI (false)))]) rfl rfl rfl ?_
        exact z_iret C dX7_mayBody_132 (bI_nar _) (Nat.le_of_ble_eq_true rfl) (Nat.le_of_ble_eq_true rfl) ⟨_, _, rfl, rfl, hw5, (by clear C hκ hκl; unfold bdB; first | ((try simp only [ipB_R q2, inB_R q2, fdB_R q2, reB_R q2, giB_R q2, hasB_R q2, mcF_R q2, mcK_R q2, guB_R q2, q2_19, q2_17, q2_1, q2_4] at *); (try simp only [ipB_R q16, inB_R q16, fdB_R q16, reB_R q16, giB_R q16, hasB_R q16, mcF_R q16, mcK_R q16, guB_R q16, q16_19, q16_17, q16_1, q16_4] at *); simp_all; done) | ((try simp only [ipB_R q2, inB_R q2, fdB_R q2, reB_R q2, giB_R q2, hasB_R q2, mcF_R q2, mcK_R q2, guB_R q2, q2_19, q2_17, q2_1, q2_4] at *); (try simp only [ipB_R q16, inB_R q16, fdB_R q16, reB_R q16, giB_R q16, hasB_R q16, mcF_R q16, mcK_R q16, guB_R q16, q16_19, q16_17, q16_1, q16_4] at *); grind)), (fun hb9 => by clear C hκ hκl; unfold bdC; first | ((try simp only [ipB_R q2, inB_R q2, fdB_R q2, reB_R q2, giB_R q2, hasB_R q2, mcF_R q2, mcK_R q2, guB_R q2, q2_19, q2_17, q2_1, q2_4] at *); (try simp only [ipB_R q16, inB_R q16, fdB_R q16, reB_R q16, giB_R q16, hasB_R q16, mcF_R q16, mcK_R q16, guB_R q16, q16_19, q16_17, q16_1, q16_4] at *); simp_all; done) | ((try simp only [ipB_R q2, inB_R q2, fdB_R q2, reB_R q2, giB_R q2, hasB_R q2, mcF_R q2, mcK_R q2, guB_R q2, q2_19, q2_17, q2_1, q2_4] at *); (try simp only [ipB_R q16, inB_R q16, fdB_R q16, reB_R q16, giB_R q16, hasB_R q16, mcF_R q16, mcK_R q16, guB_R q16, q16_19, q16_17, q16_1, q16_4] at *); grind)), (by first | (rw [if_neg (by simp_all)]; exact q16) | (exact sR.refl))⟩
      · skip
        have c17b : (0 ≤ (x) ∧ (x) < w5 11 0 ∧ w5 16 (x) = 1) := of_decide_eq_true c17
        refine z_aload_n C 119 0 dX7_mayBody_118 rfl rfl ?_
        refine z_iload_n C 120 1 dX7_mayBody_119 rfl rfl ?_
        refine z_iload_n C 121 3 dX7_mayBody_120 rfl rfl ?_
        refine z_callVF (n' := 0) (k' := 0) (As := [.int (iI (m)), .int (iI (x))]) (rest := []) C hκ hκl 124 (k7_reaches hD hw5 (m) (x) r_m r_x q16_S (by omega) (by omega)) dX7_mayBody_121 q2501 q2503 qs77 q97 q2504 znX7_reaches (Nat.le_of_ble_eq_true rfl) (Nat.le_of_ble_eq_true rfl) (Nat.le_of_ble_eq_true rfl) (Nat.le_of_ble_eq_true rfl) mrec rfl rfl (Nat.le_of_ble_eq_true rfl) rfl rfl rfl ?_
        refine z_ifB_eq C 131 127 dX7_mayBody_124 (by decide) rfl (fun c18 => ?_) (fun c18 => ?_)
        · skip
          refine z_iconst C 132 dX7_mayBody_131 rfl ?_
          refine z_as (st' := [.int (iI (bI (false)))]) rfl rfl rfl ?_
          exact z_iret C dX7_mayBody_132 (bI_nar _) (Nat.le_of_ble_eq_true rfl) (Nat.le_of_ble_eq_true rfl) ⟨_, _, rfl, rfl, hw5, (by clear C hκ hκl; unfold bdB; first | ((try simp only [ipB_R q2, inB_R q2, fdB_R q2, reB_R q2, giB_R q2, hasB_R q2, mcF_R q2, mcK_R q2, guB_R q2, q2_19, q2_17, q2_1, q2_4] at *); (try simp only [ipB_R q16, inB_R q16, fdB_R q16, reB_R q16, giB_R q16, hasB_R q16, mcF_R q16, mcK_R q16, guB_R q16, q16_19, q16_17, q16_1, q16_4] at *); simp_all; done) | ((try simp only [ipB_R q2, inB_R q2, fdB_R q2, reB_R q2, giB_R q2, hasB_R q2, mcF_R q2, mcK_R q2, guB_R q2, q2_19, q2_17, q2_1, q2_4] at *); (try simp only [ipB_R q16, inB_R q16, fdB_R q16, reB_R q16, giB_R q16, hasB_R q16, mcF_R q16, mcK_R q16, guB_R q16, q16_19, q16_17, q16_1, q16_4] at *); grind)), (fun hb9 => by clear C hκ hκl; unfold bdC; first | ((try simp only [ipB_R q2, inB_R q2, fdB_R q2, reB_R q2, giB_R q2, hasB_R q2, mcF_R q2, mcK_R q2, guB_R q2, q2_19, q2_17, q2_1, q2_4] at *); (try simp only [ipB_R q16, inB_R q16, fdB_R q16, reB_R q16, giB_R q16, hasB_R q16, mcF_R q16, mcK_R q16, guB_R q16, q16_19, q16_17, q16_1, q16_4] at *); simp_all; done) | ((try simp only [ipB_R q2, inB_R q2, fdB_R q2, reB_R q2, giB_R q2, hasB_R q2, mcF_R q2, mcK_R q2, guB_R q2, q2_19, q2_17, q2_1, q2_4] at *); (try simp only [ipB_R q16, inB_R q16, fdB_R q16, reB_R q16, giB_R q16, hasB_R q16, mcF_R q16, mcK_R q16, guB_R q16, q16_19, q16_17, q16_1, q16_4] at *); grind)), (by first | (rw [if_neg (by simp_all)]; exact q16) | (exact sR.refl))⟩
        · skip
          refine z_iconst C 128 dX7_mayBody_127 rfl ?_
          refine z_goto C 132 dX7_mayBody_128 (by decide) ?_
          refine z_as (st' := [.int (iI (bI (true)))]) rfl rfl rfl ?_
          exact z_iret C dX7_mayBody_132 (bI_nar _) (Nat.le_of_ble_eq_true rfl) (Nat.le_of_ble_eq_true rfl) ⟨_, _, rfl, rfl, hw5, (by clear C hκ hκl; unfold bdB; first | ((try simp only [ipB_R q2, inB_R q2, fdB_R q2, reB_R q2, giB_R q2, hasB_R q2, mcF_R q2, mcK_R q2, guB_R q2, q2_19, q2_17, q2_1, q2_4] at *); (try simp only [ipB_R q16, inB_R q16, fdB_R q16, reB_R q16, giB_R q16, hasB_R q16, mcF_R q16, mcK_R q16, guB_R q16, q16_19, q16_17, q16_1, q16_4] at *); simp_all; done) | ((try simp only [ipB_R q2, inB_R q2, fdB_R q2, reB_R q2, giB_R q2, hasB_R q2, mcF_R q2, mcK_R q2, guB_R q2, q2_19, q2_17, q2_1, q2_4] at *); (try simp only [ipB_R q16, inB_R q16, fdB_R q16, reB_R q16, giB_R q16, hasB_R q16, mcF_R q16, mcK_R q16, guB_R q16, q16_19, q16_17, q16_1, q16_4] at *); grind)), (fun hb9 => by clear C hκ hκl; unfold bdC; first | ((try simp only [ipB_R q2, inB_R q2, fdB_R q2, reB_R q2, giB_R q2, hasB_R q2, mcF_R q2, mcK_R q2, guB_R q2, q2_19, q2_17, q2_1, q2_4] at *); (try simp only [ipB_R q16, inB_R q16, fdB_R q16, reB_R q16, giB_R q16, hasB_R q16, mcF_R q16, mcK_R q16, guB_R q16, q16_19, q16_17, q16_1, q16_4] at *); simp_all; done) | ((try simp only [ipB_R q2, inB_R q2, fdB_R q2, reB_R q2, giB_R q2, hasB_R q2, mcF_R q2, mcK_R q2, guB_R q2, q2_19, q2_17, q2_1, q2_4] at *); (try simp only [ipB_R q16, inB_R q16, fdB_R q16, reB_R q16, giB_R q16, hasB_R q16, mcF_R q16, mcK_R q16, guB_R q16, q16_19, q16_17, q16_1, q16_4] at *); grind)), (by first | (rw [if_neg (by simp_all)]; exact q16) | (exact sR.refl))⟩
  · skip
    refine z_tsIn C (k) 133 (off := 127) dX7_mayBody_6 c3r (by omega) (by omega) (by rw [c3]; rfl) (by decide) ?_
    refine z_aload_n C 134 0 dX7_mayBody_133 rfl rfl ?_
    refine z_iload_n C 135 3 dX7_mayBody_134 rfl rfl ?_
    refine z_callVF (n' := 0) (k' := 0) (As := [.int (iI (x))]) (rest := []) C hκ hκl 138 (k7_isFieldAt hD hw1 (x) r_x q2_S.B) dX7_mayBody_135 q2413 q2415 qs69 q97 q2416 znX7_isFieldAt (Nat.le_of_ble_eq_true rfl) (Nat.le_of_ble_eq_true rfl) (Nat.le_of_ble_eq_true rfl) (Nat.le_of_ble_eq_true rfl) mrec rfl rfl (Nat.le_of_ble_eq_true rfl) rfl rfl rfl ?_
    refine z_ifB_eq C 188 141 dX7_mayBody_138 (by decide) rfl (fun c19 => ?_) (fun c19 => ?_)
    · skip
      have c19b : ¬ (0 ≤ (x) ∧ (x) < w1 11 0 ∧ w1 16 (x) = 1) := of_decide_eq_false c19
      refine z_iconst C 189 dX7_mayBody_188 rfl ?_
      refine z_as (st' := [.int (iI (bI (false)))]) rfl rfl rfl ?_
      exact z_iret C dX7_mayBody_189 (bI_nar _) (Nat.le_of_ble_eq_true rfl) (Nat.le_of_ble_eq_true rfl) ⟨_, _, rfl, rfl, hw1, (by clear C hκ hκl; unfold bdB; first | ((try simp only [ipB_R q2, inB_R q2, fdB_R q2, reB_R q2, giB_R q2, hasB_R q2, mcF_R q2, mcK_R q2, guB_R q2, q2_19, q2_17, q2_1, q2_4] at *); simp_all; done) | ((try simp only [ipB_R q2, inB_R q2, fdB_R q2, reB_R q2, giB_R q2, hasB_R q2, mcF_R q2, mcK_R q2, guB_R q2, q2_19, q2_17, q2_1, q2_4] at *); grind)), (fun hb9 => by clear C hκ hκl; unfold bdC; first | ((try simp only [ipB_R q2, inB_R q2, fdB_R q2, reB_R q2, giB_R q2, hasB_R q2, mcF_R q2, mcK_R q2, guB_R q2, q2_19, q2_17, q2_1, q2_4] at *); simp_all; done) | ((try simp only [ipB_R q2, inB_R q2, fdB_R q2, reB_R q2, giB_R q2, hasB_R q2, mcF_R q2, mcK_R q2, guB_R q2, q2_19, q2_17, q2_1, q2_4] at *); grind)), (by first | (rw [if_neg (by simp_all)]; exact q2) | (exact sR.refl))⟩
    · skip
      have c19b : (0 ≤ (x) ∧ (x) < w1 11 0 ∧ w1 16 (x) = 1) := of_decide_eq_true c19
      refine z_aload_n C 142 0 dX7_mayBody_141 rfl rfl ?_
      refine z_iload_n C 143 1 dX7_mayBody_142 rfl rfl ?_
      refine z_iload C 145 4 dX7_mayBody_143 rfl rfl ?_
      refine z_callVF (n' := 0) (k' := 0) (As := [.int (iI (m)), .int (iI (y))]) (rest := []) C hκ hκl 148 (k7_isParam hD hw1 (m) (y) r_m r_y q2_S (by omega)) dX7_mayBody_145 q2497 q2499 qs76 q97 q2500 znX7_isParam (Nat.le_of_ble_eq_true rfl) (Nat.le_of_ble_eq_true rfl) (Nat.le_of_ble_eq_true rfl) (Nat.le_of_ble_eq_true rfl) mrec rfl rfl (Nat.le_of_ble_eq_true rfl) rfl rfl rfl ?_
      refine z_ifB_eq C 188 151 dX7_mayBody_148 (by decide) rfl (fun c20 => ?_) (fun c20 => ?_)
      · skip
        have c20b : ¬ (0 ≤ (y) ∧ (y) < w1 18 (m)) := of_decide_eq_false c20
        refine z_iconst C 189 dX7_mayBody_188 rfl ?_
        refine z_as (st' := [.int (iI (bI (false)))]) rfl rfl rfl ?_
        exact z_iret C dX7_mayBody_189 (bI_nar _) (Nat.le_of_ble_eq_true rfl) (Nat.le_of_ble_eq_true rfl) ⟨_, _, rfl, rfl, hw1, (by clear C hκ hκl; unfold bdB; first | ((try simp only [ipB_R q2, inB_R q2, fdB_R q2, reB_R q2, giB_R q2, hasB_R q2, mcF_R q2, mcK_R q2, guB_R q2, q2_19, q2_17, q2_1, q2_4] at *); simp_all; done) | ((try simp only [ipB_R q2, inB_R q2, fdB_R q2, reB_R q2, giB_R q2, hasB_R q2, mcF_R q2, mcK_R q2, guB_R q2, q2_19, q2_17, q2_1, q2_4] at *); grind)), (fun hb9 => by clear C hκ hκl; unfold bdC; first | ((try simp only [ipB_R q2, inB_R q2, fdB_R q2, reB_R q2, giB_R q2, hasB_R q2, mcF_R q2, mcK_R q2, guB_R q2, q2_19, q2_17, q2_1, q2_4] at *); simp_all; done) | ((try simp only [ipB_R q2, inB_R q2, fdB_R q2, reB_R q2, giB_R q2, hasB_R q2, mcF_R q2, mcK_R q2, guB_R q2, q2_19, q2_17, q2_1, q2_4] at *); grind)), (by first | (rw [if_neg (by simp_all)]; exact q2) | (exact sR.refl))⟩
      · skip
        have c20b : (0 ≤ (y) ∧ (y) < w1 18 (m)) := of_decide_eq_true c20
        refine z_aload_n C 152 0 dX7_mayBody_151 rfl rfl ?_
        refine z_iload_n C 153 1 dX7_mayBody_152 rfl rfl ?_
        refine z_iload_n C 154 3 dX7_mayBody_153 rfl rfl ?_
        refine z_callVF (n' := 0) (k' := 0) (As := [.int (iI (m)), .int (iI (x))]) (rest := []) C hκ hκl 157 (k7_reaches hD hw1 (m) (x) r_m r_x q2_S (by omega) (by omega)) dX7_mayBody_154 q2501 q2503 qs77 q97 q2504 znX7_reaches (Nat.le_of_ble_eq_true rfl) (Nat.le_of_ble_eq_true rfl) (Nat.le_of_ble_eq_true rfl) (Nat.le_of_ble_eq_true rfl) mrec rfl rfl (Nat.le_of_ble_eq_true rfl) rfl rfl rfl ?_
        refine z_ifB_eq C 188 160 dX7_mayBody_157 (by decide) rfl (fun c21 => ?_) (fun c21 => ?_)
        · skip
          refine z_iconst C 189 dX7_mayBody_188 rfl ?_
          refine z_as (st' := [.int (iI (bI (false)))]) rfl rfl rfl ?_
          exact z_iret C dX7_mayBody_189 (bI_nar _) (Nat.le_of_ble_eq_true rfl) (Nat.le_of_ble_eq_true rfl) ⟨_, _, rfl, rfl, hw1, (by clear C hκ hκl; unfold bdB; first | ((try simp only [ipB_R q2, inB_R q2, fdB_R q2, reB_R q2, giB_R q2, hasB_R q2, mcF_R q2, mcK_R q2, guB_R q2, q2_19, q2_17, q2_1, q2_4] at *); simp_all; done) | ((try simp only [ipB_R q2, inB_R q2, fdB_R q2, reB_R q2, giB_R q2, hasB_R q2, mcF_R q2, mcK_R q2, guB_R q2, q2_19, q2_17, q2_1, q2_4] at *); grind)), (fun hb9 => by clear C hκ hκl; unfold bdC; first | ((try simp only [ipB_R q2, inB_R q2, fdB_R q2, reB_R q2, giB_R q2, hasB_R q2, mcF_R q2, mcK_R q2, guB_R q2, q2_19, q2_17, q2_1, q2_4] at *); simp_all; done) | ((try simp only [ipB_R q2, inB_R q2, fdB_R q2, reB_R q2, giB_R q2, hasB_R q2, mcF_R q2, mcK_R q2, guB_R q2, q2_19, q2_17, q2_1, q2_4] at *); grind)), (by first | (rw [if_neg (by simp_all)]; exact q2) | (exact sR.refl))⟩
        · skip
          refine z_aload_n C 161 0 dX7_mayBody_160 rfl rfl ?_
          refine z_aload_n C 162 0 dX7_mayBody_161 rfl rfl ?_
          refine m_geta C hκ 165 19 (by decide) rfl q2014 rfl dX7_mayBody_162 rfl ?_
          refine z_iconst C 166 dX7_mayBody_165 rfl ?_
          refine z_iload_n C 167 1 dX7_mayBody_166 rfl rfl ?_
          refine z_imul C 168 dX7_mayBody_167 rfl ?_
          refine z_iload C 170 4 dX7_mayBody_168 rfl rfl ?_
          refine z_iadd C 171 dX7_mayBody_170 rfl ?_
          refine m_iald (len := 300) C hκ hD 172 19 (by decide) rfl rfl (by omega) (by omega) dX7_mayBody_171 rfl ?_
          have p1 := q2d y (by omega) (by omega); have p2 := h17 x (by omega) (by omega) (by rw [← q2_16]; omega); rw [← q2_17] at p2
          refine z_aload_n C 173 0 dX7_mayBody_172 rfl rfl ?_
          refine m_geta C hκ 176 17 (by decide) rfl q2012 rfl dX7_mayBody_173 rfl ?_
          refine z_iload_n C 177 3 dX7_mayBody_176 rfl rfl ?_
          obtain ⟨f22a, f22b, f22c, f22d⟩ := q2_S.M (show 0 ≤ x by omega) (by omega)
          refine m_iald (len := 100) C hκ hD 178 17 (by decide) rfl rfl (by omega) (by omega) dX7_mayBody_177 rfl ?_
          refine z_callVF (n' := 0) (k' := 0) (As := [.int (iI (w1 19 (((3) * (m)) + (y)))), .int (iI (w1 17 (x)))]) (rest := []) C hκ hκl 181 (k7_goesInto hD hw1 (w1 19 (((3) * (m)) + (y))) (w1 17 (x)) (hw1.r _ _ rfl) (hw1.r _ _ rfl) (by omega) (by omega)) dX7_mayBody_178 q2209 q2211 qs45 q97 q2212 znX7_goesInto (Nat.le_of_ble_eq_true rfl) (Nat.le_of_ble_eq_true rfl) (Nat.le_of_ble_eq_true rfl) (Nat.le_of_ble_eq_true rfl) mrec rfl rfl (Nat.le_of_ble_eq_true rfl) rfl rfl rfl ?_
          refine z_ifB_eq C 188 184 dX7_mayBody_181 (by decide) rfl (fun c23 => ?_) (fun c23 => ?_)
          · skip
            refine z_iconst C 189 dX7_mayBody_188 rfl ?_
            refine z_as (st' := [.int (iI (bI (false)))]) rfl rfl rfl ?_
            exact z_iret C dX7_mayBody_189 (bI_nar _) (Nat.le_of_ble_eq_true rfl) (Nat.le_of_ble_eq_true rfl) ⟨_, _, rfl, rfl, hw1, (by clear C hκ hκl; unfold bdB; first | ((try simp only [ipB_R q2, inB_R q2, fdB_R q2, reB_R q2, giB_R q2, hasB_R q2, mcF_R q2, mcK_R q2, guB_R q2, q2_19, q2_17, q2_1, q2_4] at *); simp_all; done) | ((try simp only [ipB_R q2, inB_R q2, fdB_R q2, reB_R q2, giB_R q2, hasB_R q2, mcF_R q2, mcK_R q2, guB_R q2, q2_19, q2_17, q2_1, q2_4] at *); grind)), (fun hb9 => by clear C hκ hκl; unfold bdC; first | ((try simp only [ipB_R q2, inB_R q2, fdB_R q2, reB_R q2, giB_R q2, hasB_R q2, mcF_R q2, mcK_R q2, guB_R q2, q2_19, q2_17, q2_1, q2_4] at *); simp_all; done) | ((try simp only [ipB_R q2, inB_R q2, fdB_R q2, reB_R q2, giB_R q2, hasB_R q2, mcF_R q2, mcK_R q2, guB_R q2, q2_19, q2_17, q2_1, q2_4] at *); grind)), (by first | (rw [if_neg (by simp_all)]; exact q2) | (exact sR.refl))⟩
          · skip
            refine z_iconst C 185 dX7_mayBody_184 rfl ?_
            refine z_goto C 189 dX7_mayBody_185 (by decide) ?_
            refine z_as (st' := [.int (iI (bI (true)))]) rfl rfl rfl ?_
            exact z_iret C dX7_mayBody_189 (bI_nar _) (Nat.le_of_ble_eq_true rfl) (Nat.le_of_ble_eq_true rfl) ⟨_, _, rfl, rfl, hw1, (by clear C hκ hκl; unfold bdB; first | ((try simp only [ipB_R q2, inB_R q2, fdB_R q2, reB_R q2, giB_R q2, hasB_R q2, mcF_R q2, mcK_R q2, guB_R q2, q2_19, q2_17, q2_1, q2_4] at *); simp_all; done) | ((try simp only [ipB_R q2, inB_R q2, fdB_R q2, reB_R q2, giB_R q2, hasB_R q2, mcF_R q2, mcK_R q2, guB_R q2, q2_19, q2_17, q2_1, q2_4] at *); grind)), (fun hb9 => by clear C hκ hκl; unfold bdC; first | ((try simp only [ipB_R q2, inB_R q2, fdB_R q2, reB_R q2, giB_R q2, hasB_R q2, mcF_R q2, mcK_R q2, guB_R q2, q2_19, q2_17, q2_1, q2_4] at *); simp_all; done) | ((try simp only [ipB_R q2, inB_R q2, fdB_R q2, reB_R q2, giB_R q2, hasB_R q2, mcF_R q2, mcK_R q2, guB_R q2, q2_19, q2_17, q2_1, q2_4] at *); grind)), (by first | (rw [if_neg (by simp_all)]; exact q2) | (exact sR.refl))⟩
  · skip
    refine z_tsIn C (k) 190 (off := 184) dX7_mayBody_6 c3r (by omega) (by omega) (by rw [c3]; rfl) (by decide) ?_
    refine z_iload_n C 191 3 dX7_mayBody_190 rfl rfl ?_
    refine z_i2l C 192 dX7_mayBody_191 r_x rfl ?_
    refine z_lconst (x := 1) C 193 dX7_mayBody_192 rfl rfl ?_
    refine z_ldc2 (z := 8) C 196 dX7_mayBody_193 q2381 (by decide) rfl ?_
    refine z_callSF (n' := 0) (k' := 0) (As := [.long (lI (x)), .long (lI (1)), .long (lI (8))]) (rest := []) C hκ hκl 199 (k7_in (x) (1) (8) (inR_L r_x) ⟨by decide, by decide⟩ ⟨by decide, by decide⟩) dX7_mayBody_196 q2164 q2165 q97 q2166 znX7_in (Nat.le_of_ble_eq_true rfl) (Nat.le_of_ble_eq_true rfl) (Nat.le_of_ble_eq_true rfl) (Nat.le_of_ble_eq_true rfl) rfl (Nat.le_of_ble_eq_true rfl) rfl rfl rfl ?_
    exact z_iret C dX7_mayBody_199 (bI_nar _) (Nat.le_of_ble_eq_true rfl) (Nat.le_of_ble_eq_true rfl) ⟨_, _, rfl, rfl, hw1, (by clear C hκ hκl; unfold bdB; first | ((try simp only [ipB_R q2, inB_R q2, fdB_R q2, reB_R q2, giB_R q2, hasB_R q2, mcF_R q2, mcK_R q2, guB_R q2, q2_19, q2_17, q2_1, q2_4] at *); simp_all; done) | ((try simp only [ipB_R q2, inB_R q2, fdB_R q2, reB_R q2, giB_R q2, hasB_R q2, mcF_R q2, mcK_R q2, guB_R q2, q2_19, q2_17, q2_1, q2_4] at *); grind)), (fun hb9 => by clear C hκ hκl; unfold bdC; first | ((try simp only [ipB_R q2, inB_R q2, fdB_R q2, reB_R q2, giB_R q2, hasB_R q2, mcF_R q2, mcK_R q2, guB_R q2, q2_19, q2_17, q2_1, q2_4] at *); simp_all; done) | ((try simp only [ipB_R q2, inB_R q2, fdB_R q2, reB_R q2, giB_R q2, hasB_R q2, mcF_R q2, mcK_R q2, guB_R q2, q2_19, q2_17, q2_1, q2_4] at *); grind)), (by first | (rw [if_neg (by simp_all)]; exact q2) | (exact sR.refl))⟩
  · skip
    refine z_tsIn C (k) 200 (off := 194) dX7_mayBody_6 c3r (by omega) (by omega) (by rw [c3]; rfl) (by decide) ?_
    refine z_aload_n C 201 0 dX7_mayBody_200 rfl rfl ?_
    refine z_iload_n C 202 1 dX7_mayBody_201 rfl rfl ?_
    refine z_iload_n C 203 3 dX7_mayBody_202 rfl rfl ?_
    refine z_callVF (n' := 0) (k' := 0) (As := [.int (iI (m)), .int (iI (x))]) (rest := []) C hκ hκl 206 (k7_mayCallFrom hD hw1 (m) (x) r_m r_x q2_S (by omega)) dX7_mayBody_203 q2505 q2507 qs78 q97 q2508 znX7_mayCallFrom (Nat.le_of_ble_eq_true rfl) (Nat.le_of_ble_eq_true rfl) (Nat.le_of_ble_eq_true rfl) (Nat.le_of_ble_eq_true rfl) mrec rfl rfl (Nat.le_of_ble_eq_true rfl) rfl rfl rfl ?_
    obtain ⟨w6, ew6⟩ : ∃ wz, (if mcK w1 (m) (x) then mset w1 44 0 (w1 17 (x)) else w1) = wz := ⟨_, rfl⟩
    rw [ew6]
    have hw6 : mWF w6 := ew6 ▸ (by split; exact (hw1.set (hw1.r _ _ rfl) rfl); exact hw1)
    have q5 : sR w w6 := ew6 ▸ (by split; exact q2.set (by omega); exact q2)
    exact z_iret C dX7_mayBody_206 (bI_nar _) (Nat.le_of_ble_eq_true rfl) (Nat.le_of_ble_eq_true rfl) ⟨_, _, rfl, rfl, hw6, (by rw [mcF_R q2]; unfold bdB; simp [show k = 5 by omega]), (fun hb9 => by have hk : mcK w1 m x = true := (by unfold mcF at hb9; simp at hb9; exact hb9.1); rw [← ew6, if_pos hk, mset_s, q2_17]; unfold bdC; simp [show k = 5 by omega]), (by rw [if_neg (by omega)]; exact q5)⟩
  · skip
    refine z_tsIn C (k) 207 (off := 201) dX7_mayBody_6 c3r (by omega) (by omega) (by rw [c3]; rfl) (by decide) ?_
    refine z_aload_n C 208 0 dX7_mayBody_207 rfl rfl ?_
    refine z_iload_n C 209 1 dX7_mayBody_208 rfl rfl ?_
    refine z_iload_n C 210 3 dX7_mayBody_209 rfl rfl ?_
    refine z_callVF (n' := 0) (k' := 0) (As := [.int (iI (m)), .int (iI (x))]) (rest := []) C hκ hκl 213 (k7_isNumber hD hw1 (m) (x) r_m r_x q2_S (by omega)) dX7_mayBody_210 q2509 q2511 qs79 q97 q2512 znX7_isNumber (Nat.le_of_ble_eq_true rfl) (Nat.le_of_ble_eq_true rfl) (Nat.le_of_ble_eq_true rfl) (Nat.le_of_ble_eq_true rfl) mrec rfl rfl (Nat.le_of_ble_eq_true rfl) rfl rfl rfl ?_
    refine z_ifB_eq C 230 216 dX7_mayBody_213 (by decide) rfl (fun c24 => ?_) (fun c24 => ?_)
    · skip
      have c24b : ¬ ((0 ≤ (x) ∧ (x) < w1 18 (m)) ∧ 1 ≤ w1 19 (3 * (m) + (x)) ∧ w1 19 (3 * (m) + (x)) ≤ 7) := of_decide_eq_false c24
      refine z_iconst C 231 dX7_mayBody_230 rfl ?_
      refine z_istore (lv' := [(0, .ref (am)), (1, .int (iI (m))), (2, .int (iI (k))), (3, .int (iI (x))), (4, .int (iI (y))), (5, .int (iI (0)))]) C 233 [1, 2, 3, 4, 5, 0] dX7_mayBody_231 (by decide) rfl rfl ?_
      refine z_aload_n C 234 0 dX7_mayBody_233 rfl rfl ?_
      refine z_iload C 236 5 dX7_mayBody_234 rfl rfl ?_
      refine z_if_eq C 266 239 dX7_mayBody_236 (by decide) ⟨by decide, by decide⟩ rfl (fun c25 => ?_) (fun c25 => absurd c25 (by decide))
      refine z_iconst C 267 dX7_mayBody_266 rfl ?_
      obtain ⟨w7, ew7⟩ : ∃ wz, mset w1 44 (0) (-1) = wz := ⟨_, rfl⟩
      have hw7 : mWF w7 := ew7 ▸ hw1.set ⟨by decide, by decide⟩ rfl
      refine m_puti (w' := w7) C hκ 270 44 (by decide) (by decide) rfl q2039 rfl rfl rfl rfl dX7_mayBody_267 rfl ew7 ?_
      have c44_26 := (congrFun (congrFun ew7 44) 0).symm.trans mset_s
      have q27 : sR w w7 := (by rw [← ew7]; exact q2.set (by omega))
      have q27_19 : ∀ i, w7 19 i = w 19 i := fun i => q27 19 i (Or.inl (by decide))
      have q27_17 : ∀ i, w7 17 i = w 17 i := fun i => q27 17 i (Or.inl (by decide))
      have q27_1 : ∀ i, w7 1 i = w 1 i := fun i => q27 1 i (Or.inl (by decide))
      have q27_4 : ∀ i, w7 4 i = w 4 i := fun i => q27 4 i (Or.inl (by decide))
      have q27_18 : ∀ i, w7 18 i = w 18 i := fun i => q27 18 i (Or.inl (by decide))
      have q27_13 : ∀ i, w7 13 i = w 13 i := fun i => q27 13 i (Or.inl (by decide))
      have q27_11 : ∀ i, w7 11 i = w 11 i := fun i => q27 11 i (Or.inl (by decide))
      have q27_16 : ∀ i, w7 16 i = w 16 i := fun i => q27 16 i (Or.inl (by decide))
      have q27_0 : ∀ i, w7 0 i = w 0 i := fun i => q27 0 i (Or.inl (by decide))
      have q27_S := mS_R q27 hS
      have q27_r := fun i => q27_0 i; have q27_t := q27_0 0; have q27_u := q27_11 0
      obtain ⟨q27a, q27b, q27c, q27d⟩ := q27_S.M (m := m) (by omega) (by omega)
      refine z_iload C 272 5 dX7_mayBody_270 rfl rfl ?_
      refine z_as (st' := [.int (iI (bI (false)))]) rfl rfl rfl ?_
      exact z_iret C dX7_mayBody_272 (bI_nar _) (Nat.le_of_ble_eq_true rfl) (Nat.le_of_ble_eq_true rfl) ⟨_, _, rfl, rfl, hw7, (by clear C hκ hκl; unfold bdB; first | ((try simp only [ipB_R q2, inB_R q2, fdB_R q2, reB_R q2, giB_R q2, hasB_R q2, mcF_R q2, mcK_R q2, guB_R q2, q2_19, q2_17, q2_1, q2_4] at *); (try simp only [ipB_R q27, inB_R q27, fdB_R q27, reB_R q27, giB_R q27, hasB_R q27, mcF_R q27, mcK_R q27, guB_R q27, q27_19, q27_17, q27_1, q27_4] at *); simp_all; done) | ((try simp only [ipB_R q2, inB_R q2, fdB_R q2, reB_R q2, giB_R q2, hasB_R q2, mcF_R q2, mcK_R q2, guB_R q2, q2_19, q2_17, q2_1, q2_4] at *); (try simp only [ipB_R q27, inB_R q27, fdB_R q27, reB_R q27, giB_R q27, hasB_R q27, mcF_R q27, mcK_R q27, guB_R q27, q27_19, q27_17, q27_1, q27_4] at *); grind)), (fun hb9 => by clear C hκ hκl; unfold bdC; first | ((try simp only [ipB_R q2, inB_R q2, fdB_R q2, reB_R q2, giB_R q2, hasB_R q2, mcF_R q2, mcK_R q2, guB_R q2, q2_19, q2_17, q2_1, q2_4] at *); (try simp only [ipB_R q27, inB_R q27, fdB_R q27, reB_R q27, giB_R q27, hasB_R q27, mcF_R q27, mcK_R q27, guB_R q27, q27_19, q27_17, q27_1, q27_4] at *); simp_all; done) | ((try simp only [ipB_R q2, inB_R q2, fdB_R q2, reB_R q2, giB_R q2, hasB_R q2, mcF_R q2, mcK_R q2, guB_R q2, q2_19, q2_17, q2_1, q2_4] at *); (try simp only [ipB_R q27, inB_R q27, fdB_R q27, reB_R q27, giB_R q27, hasB_R q27, mcF_R q27, mcK_R q27, guB_R q27, q27_19, q27_17, q27_1, q27_4] at *); grind)), (by first | (rw [if_neg (by simp_all)]; exact q27) | (exact sR.refl))⟩
    · skip
      have c24b : ((0 ≤ (x) ∧ (x) < w1 18 (m)) ∧ 1 ≤ w1 19 (3 * (m) + (x)) ∧ w1 19 (3 * (m) + (x)) ≤ 7) := of_decide_eq_true c24
      refine z_aload_n C 217 0 dX7_mayBody_216 rfl rfl ?_
      refine z_iload_n C 218 1 dX7_mayBody_217 rfl rfl ?_
      refine z_iload C 220 4 dX7_mayBody_218 rfl rfl ?_
      refine z_callVF (n' := 0) (k' := 0) (As := [.int (iI (m)), .int (iI (y))]) (rest := []) C hκ hκl 223 (k7_isNumber hD hw1 (m) (y) r_m r_y q2_S (by omega)) dX7_mayBody_220 q2509 q2511 qs79 q97 q2512 znX7_isNumber (Nat.le_of_ble_eq_true rfl) (Nat.le_of_ble_eq_true rfl) (Nat.le_of_ble_eq_true rfl) (Nat.le_of_ble_eq_true rfl) mrec rfl rfl (Nat.le_of_ble_eq_true rfl) rfl rfl rfl ?_
      refine z_ifB_eq C 230 226 dX7_mayBody_223 (by decide) rfl (fun c28 => ?_) (fun c28 => ?_)
      · skip
        have c28b : ¬ ((0 ≤ (y) ∧ (y) < w1 18 (m)) ∧ 1 ≤ w1 19 (3 * (m) + (y)) ∧ w1 19 (3 * (m) + (y)) ≤ 7) := of_decide_eq_false c28
        refine z_iconst C 231 dX7_mayBody_230 rfl ?_
        refine z_istore (lv' := [(0, .ref (am)), (1, .int (iI (m))), (2, .int (iI (k))), (3, .int (iI (x))), (4, .int (iI (y))), (5, .int (iI (0)))]) C 233 [1, 2, 3, 4, 5, 0] dX7_mayBody_231 (by decide) rfl rfl ?_
        refine z_aload_n C 234 0 dX7_mayBody_233 rfl rfl ?_
        refine z_iload C 236 5 dX7_mayBody_234 rfl rfl ?_
        refine z_if_eq C 266 239 dX7_mayBody_236 (by decide) ⟨by decide, by decide⟩ rfl (fun c29 => ?_) (fun c29 => absurd c29 (by decide))
        refine z_iconst C 267 dX7_mayBody_266 rfl ?_
        obtain ⟨w8, ew8⟩ : ∃ wz, mset w1 44 (0) (-1) = wz := ⟨_, rfl⟩
        have hw8 : mWF w8 := ew8 ▸ hw1.set ⟨by decide, by decide⟩ rfl
        refine m_puti (w' := w8) C hκ 270 44 (by decide) (by decide) rfl q2039 rfl rfl rfl rfl dX7_mayBody_267 rfl ew8 ?_
        have c44_30 := (congrFun (congrFun ew8 44) 0).symm.trans mset_s
        have q31 : sR w w8 := (by rw [← ew8]; exact q2.set (by omega))
        have q31_19 : ∀ i, w8 19 i = w 19 i := fun i => q31 19 i (Or.inl (by decide))
        have q31_17 : ∀ i, w8 17 i = w 17 i := fun i => q31 17 i (Or.inl (by decide))
        have q31_1 : ∀ i, w8 1 i = w 1 i := fun i => q31 1 i (Or.inl (by decide))
        have q31_4 : ∀ i, w8 4 i = w 4 i := fun i => q31 4 i (Or.inl (by decide))
        have q31_18 : ∀ i, w8 18 i = w 18 i := fun i => q31 18 i (Or.inl (by decide))
        have q31_13 : ∀ i, w8 13 i = w 13 i := fun i => q31 13 i (Or.inl (by decide))
        have q31_11 : ∀ i, w8 11 i = w 11 i := fun i => q31 11 i (Or.inl (by decide))
        have q31_16 : ∀ i, w8 16 i = w 16 i := fun i => q31 16 i (Or.inl (by decide))
        have q31_0 : ∀ i, w8 0 i = w 0 i := fun i => q31 0 i (Or.inl (by decide))
        have q31_S := mS_R q31 hS
        have q31_r := fun i => q31_0 i; have q31_t := q31_0 0; have q31_u := q31_11 0
        obtain ⟨q31a, q31b, q31c, q31d⟩ := q31_S.M (m := m) (by omega) (by omega)
        refine z_iload C 272 5 dX7_mayBody_270 rfl rfl ?_
        refine z_as (st' := [.int (iI (bI (false)))]) rfl rfl rfl ?_
        exact z_iret C dX7_mayBody_272 (bI_nar _) (Nat.le_of_ble_eq_true rfl) (Nat.le_of_ble_eq_true rfl) ⟨_, _, rfl, rfl, hw8, (by clear C hκ hκl; unfold bdB; first | ((try simp only [ipB_R q2, inB_R q2, fdB_R q2, reB_R q2, giB_R q2, hasB_R q2, mcF_R q2, mcK_R q2, guB_R q2, q2_19, q2_17, q2_1, q2_4] at *); (try simp only [ipB_R q31, inB_R q31, fdB_R q31, reB_R q31, giB_R q31, hasB_R q31, mcF_R q31, mcK_R q31, guB_R q31, q31_19, q31_17, q31_1, q31_4] at *); simp_all; done) | ((try simp only [ipB_R q2, inB_R q2, fdB_R q2, reB_R q2, giB_R q2, hasB_R q2, mcF_R q2, mcK_R q2, guB_R q2, q2_19, q2_17, q2_1, q2_4] at *); (try simp only [ipB_R q31, inB_R q31, fdB_R q31, reB_R q31, giB_R q31, hasB_R q31, mcF_R q31, mcK_R q31, guB_R q31, q31_19, q31_17, q31_1, q31_4] at *); grind)), (fun hb9 => by clear C hκ hκl; unfold bdC; first | ((try simp only [ipB_R q2, inB_R q2, fdB_R q2, reB_R q2, giB_R q2, hasB_R q2, mcF_R q2, mcK_R q2, guB_R q2, q2_19, q2_17, q2_1, q2_4] at *); (try simp only [ipB_R q31, inB_R q31, fdB_R q31, reB_R q31, giB_R q31, hasB_R q31, mcF_R q31, mcK_R q31, guB_R q31, q31_19, q31_17, q31_1, q31_4] at *); simp_all; done) | ((try simp only [ipB_R q2, inB_R q2, fdB_R q2, reB_R q2, giB_R q2, hasB_R q2, mcF_R q2, mcK_R q2, guB_R q2, q2_19, q2_17, q2_1, q2_4] at *); (try simp only [ipB_R q31, inB_R q31, fdB_R q31, reB_R q31, giB_R q31, hasB_R q31, mcF_R q31, mcK_R q31, guB_R q31, q31_19, q31_17, q31_1, q31_4] at *); grind)), (by first | (rw [if_neg (by simp_all)]; exact q31) | (exact sR.refl))⟩
      · skip
        have c28b : ((0 ≤ (y) ∧ (y) < w1 18 (m)) ∧ 1 ≤ w1 19 (3 * (m) + (y)) ∧ w1 19 (3 * (m) + (y)) ≤ 7) := of_decide_eq_true c28
        refine z_iconst C 227 dX7_mayBody_226 rfl ?_
        refine z_goto C 231 dX7_mayBody_227 (by decide) ?_
        refine z_istore (lv' := [(0, .ref (am)), (1, .int (iI (m))), (2, .int (iI (k))), (3, .int (iI (x))), (4, .int (iI (y))), (5, .int (iI (1)))]) C 233 [1, 2, 3, 4, 5, 0] dX7_mayBody_231 (by decide) rfl rfl ?_
        refine z_aload_n C 234 0 dX7_mayBody_233 rfl rfl ?_
        refine z_iload C 236 5 dX7_mayBody_234 rfl rfl ?_
        refine z_if_eq C 266 239 dX7_mayBody_236 (by decide) ⟨by decide, by decide⟩ rfl (fun c32 => absurd c32 (by decide)) (fun c32 => ?_)
        refine z_aload_n C 240 0 dX7_mayBody_239 rfl rfl ?_
        refine m_geta C hκ 243 19 (by decide) rfl q2014 rfl dX7_mayBody_240 rfl ?_
        refine z_iconst C 244 dX7_mayBody_243 rfl ?_
        refine z_iload_n C 245 1 dX7_mayBody_244 rfl rfl ?_
        refine z_imul C 246 dX7_mayBody_245 rfl ?_
        refine z_iload_n C 247 3 dX7_mayBody_246 rfl rfl ?_
        refine z_iadd C 248 dX7_mayBody_247 rfl ?_
        refine m_iald (len := 300) C hκ hD 249 19 (by decide) rfl rfl (by omega) (by omega) dX7_mayBody_248 rfl ?_
        have p1 := q2d x (by omega) (by omega)
        refine z_aload_n C 250 0 dX7_mayBody_249 rfl rfl ?_
        refine m_geta C hκ 253 19 (by decide) rfl q2014 rfl dX7_mayBody_250 rfl ?_
        refine z_iconst C 254 dX7_mayBody_253 rfl ?_
        refine z_iload_n C 255 1 dX7_mayBody_254 rfl rfl ?_
        refine z_imul C 256 dX7_mayBody_255 rfl ?_
        refine z_iload C 258 4 dX7_mayBody_256 rfl rfl ?_
        refine z_iadd C 259 dX7_mayBody_258 rfl ?_
        refine m_iald (len := 300) C hκ hD 260 19 (by decide) rfl rfl (by omega) (by omega) dX7_mayBody_259 rfl ?_
        have p3 := q2d y (by omega) (by omega)
        refine z_callSF (n' := 0) (k' := 0) (As := [.int (iI (w1 19 (((3) * (m)) + (x)))), .int (iI (w1 19 (((3) * (m)) + (y))))]) (rest := [.ref (am)]) C hκ hκl 263 (k7_sumType (w1 19 (((3) * (m)) + (x))) (w1 19 (((3) * (m)) + (y))) (hw1.r _ _ rfl) (hw1.r _ _ rfl)) dX7_mayBody_260 q2513 q2514 q97 q2515 znX7_sumType (Nat.le_of_ble_eq_true rfl) (Nat.le_of_ble_eq_true rfl) (Nat.le_of_ble_eq_true rfl) (Nat.le_of_ble_eq_true rfl) rfl (Nat.le_of_ble_eq_true rfl) rfl rfl rfl ?_
        refine z_goto C 267 dX7_mayBody_263 (by decide) ?_
        obtain ⟨w9, ew9⟩ : ∃ wz, mset w1 44 (0) (suI (w1 19 (((3) * (m)) + (x))) (w1 19 (((3) * (m)) + (y)))) = wz := ⟨_, rfl⟩
        have hw9 : mWF w9 := ew9 ▸ hw1.set (by unfold inR suI; (repeat' split) <;> omega) rfl
        refine m_puti (w' := w9) C hκ 270 44 (by decide) (by decide) rfl q2039 rfl rfl rfl rfl dX7_mayBody_267 rfl ew9 ?_
        have c44_33 := (congrFun (congrFun ew9 44) 0).symm.trans mset_s
        have q34 : sR w w9 := (by rw [← ew9]; exact q2.set (by omega))
        have q34_19 : ∀ i, w9 19 i = w 19 i := fun i => q34 19 i (Or.inl (by decide))
        have q34_17 : ∀ i, w9 17 i = w 17 i := fun i => q34 17 i (Or.inl (by decide))
        have q34_1 : ∀ i, w9 1 i = w 1 i := fun i => q34 1 i (Or.inl (by decide))
        have q34_4 : ∀ i, w9 4 i = w 4 i := fun i => q34 4 i (Or.inl (by decide))
        have q34_18 : ∀ i, w9 18 i = w 18 i := fun i => q34 18 i (Or.inl (by decide))
        have q34_13 : ∀ i, w9 13 i = w 13 i := fun i => q34 13 i (Or.inl (by decide))
        have q34_11 : ∀ i, w9 11 i = w 11 i := fun i => q34 11 i (Or.inl (by decide))
        have q34_16 : ∀ i, w9 16 i = w 16 i := fun i => q34 16 i (Or.inl (by decide))
        have q34_0 : ∀ i, w9 0 i = w 0 i := fun i => q34 0 i (Or.inl (by decide))
        have q34_S := mS_R q34 hS
        have q34_r := fun i => q34_0 i; have q34_t := q34_0 0; have q34_u := q34_11 0
        obtain ⟨q34a, q34b, q34c, q34d⟩ := q34_S.M (m := m) (by omega) (by omega)
        refine z_iload C 272 5 dX7_mayBody_270 rfl rfl ?_
        refine z_as (st' := [.int (iI (bI (true)))]) rfl rfl rfl ?_
        exact z_iret C dX7_mayBody_272 (bI_nar _) (Nat.le_of_ble_eq_true rfl) (Nat.le_of_ble_eq_true rfl) ⟨_, _, rfl, rfl, hw9, (by clear C hκ hκl; unfold bdB; first | ((try simp only [ipB_R q2, inB_R q2, fdB_R q2, reB_R q2, giB_R q2, hasB_R q2, mcF_R q2, mcK_R q2, guB_R q2, q2_19, q2_17, q2_1, q2_4] at *); (try simp only [ipB_R q34, inB_R q34, fdB_R q34, reB_R q34, giB_R q34, hasB_R q34, mcF_R q34, mcK_R q34, guB_R q34, q34_19, q34_17, q34_1, q34_4] at *); simp_all; done) | ((try simp only [ipB_R q2, inB_R q2, fdB_R q2, reB_R q2, giB_R q2, hasB_R q2, mcF_R q2, mcK_R q2, guB_R q2, q2_19, q2_17, q2_1, q2_4] at *); (try simp only [ipB_R q34, inB_R q34, fdB_R q34, reB_R q34, giB_R q34, hasB_R q34, mcF_R q34, mcK_R q34, guB_R q34, q34_19, q34_17, q34_1, q34_4] at *); grind)), (fun hb9 => by clear C hκ hκl; unfold bdC; first | ((try simp only [ipB_R q2, inB_R q2, fdB_R q2, reB_R q2, giB_R q2, hasB_R q2, mcF_R q2, mcK_R q2, guB_R q2, q2_19, q2_17, q2_1, q2_4] at *); (try simp only [ipB_R q34, inB_R q34, fdB_R q34, reB_R q34, giB_R q34, hasB_R q34, mcF_R q34, mcK_R q34, guB_R q34, q34_19, q34_17, q34_1, q34_4] at *); simp_all; done) | ((try simp only [ipB_R q2, inB_R q2, fdB_R q2, reB_R q2, giB_R q2, hasB_R q2, mcF_R q2, mcK_R q2, guB_R q2, q2_19, q2_17, q2_1, q2_4] at *); (try simp only [ipB_R q34, inB_R q34, fdB_R q34, reB_R q34, giB_R q34, hasB_R q34, mcF_R q34, mcK_R q34, guB_R q34, q34_19, q34_17, q34_1, q34_4] at *); grind)), (by first | (rw [if_neg (by simp_all)]; exact q34) | (exact sR.refl))⟩
  · skip
    refine z_tsIn C (k) 273 (off := 267) dX7_mayBody_6 c3r (by omega) (by omega) (by rw [c3]; rfl) (by decide) ?_
    refine z_aload_n C 274 0 dX7_mayBody_273 rfl rfl ?_
    refine z_iload_n C 275 1 dX7_mayBody_274 rfl rfl ?_
    refine z_iconst C 276 dX7_mayBody_275 rfl ?_
    refine z_callVF (n' := 0) (k' := 0) (As := [.int (iI (m)), .int (iI (4))]) (rest := []) C hκ hκl 279 (k7_has hD hw1 (m) (4) r_m ⟨by decide, by decide⟩ (by omega)) dX7_mayBody_276 q2271 q2273 qs53 q97 q2274 znX7_has (Nat.le_of_ble_eq_true rfl) (Nat.le_of_ble_eq_true rfl) (Nat.le_of_ble_eq_true rfl) (Nat.le_of_ble_eq_true rfl) mrec rfl rfl (Nat.le_of_ble_eq_true rfl) rfl rfl rfl ?_
    refine z_ifB_ne C 294 282 dX7_mayBody_279 (by decide) rfl (fun c35 => ?_) (fun c35 => ?_)
    · skip
      refine z_iconst C 295 dX7_mayBody_294 rfl ?_
      refine z_as (st' := [.int (iI (bI (false)))]) rfl rfl rfl ?_
      exact z_iret C dX7_mayBody_295 (bI_nar _) (Nat.le_of_ble_eq_true rfl) (Nat.le_of_ble_eq_true rfl) ⟨_, _, rfl, rfl, hw1, (by rw [hasB_R q2] at *; unfold bdB; simp_all), (fun hb9 => by simp at hb9), (by rw [if_neg (by simp)]; exact q2)⟩
    · skip
      refine z_aload_n C 283 0 dX7_mayBody_282 rfl rfl ?_
      refine z_iload_n C 284 1 dX7_mayBody_283 rfl rfl ?_
      refine z_callV  (As := [.int (iI (m))]) (rest := []) C hκ hκl 287 (k7_mayGoUp hD hw1 (m) r_m q2_S (by omega)) dX7_mayBody_284 q2516 q2518 qs80 q97 q2519 znX7_mayGoUp (Nat.le_of_ble_eq_true rfl) (Nat.le_of_ble_eq_true rfl) (Nat.le_of_ble_eq_true rfl) (Nat.le_of_ble_eq_true rfl) mrec rfl rfl (Nat.le_of_ble_eq_true rfl) rfl (fun v9 Q9 h9 => ?_)
      obtain ⟨b37, w10, rfl, rfl, hw10, hr36⟩ := h9
      refine z_as (st' := [.int (iI (bI (b37)))]) rfl rfl rfl ?_
      refine z_widen (n' := 0) (k' := 0) (Nat.le_refl _) (Nat.le_refl _) ?_
      refine z_ifB_eq C 294 290 dX7_mayBody_287 (by decide) rfl (fun c38 => ?_) (fun c38 => ?_)
      · skip
        refine z_iconst C 295 dX7_mayBody_294 rfl ?_
        refine z_as (st' := [.int (iI (bI (false)))]) rfl rfl rfl ?_
        exact z_iret C dX7_mayBody_295 (bI_nar _) (Nat.le_of_ble_eq_true rfl) (Nat.le_of_ble_eq_true rfl) ⟨_, _, rfl, rfl, hw10, (by have h1 := hr36.1; rw [guB_R q2] at h1; rw [hasB_R q2] at *; unfold bdB; simp_all), (fun hb9 => by have hc := hr36.2.2.trans c44_1; rw [hc]; unfold bdC; simp [show k = 7 by omega]), (by have hg := gu_st q2 hr36.2.1; have e1 : guB w m = false := (by rw [← guB_R q2, ← hr36.1]; simp_all); rw [e1] at hg; simpa [show k = 7 by omega] using hg)⟩
      · skip
        refine z_iconst C 291 dX7_mayBody_290 rfl ?_
        refine z_goto C 295 dX7_mayBody_291 (by decide) ?_
        refine z_as (st' := [.int (iI (bI (true)))]) rfl rfl rfl ?_
        exact z_iret C dX7_mayBody_295 (bI_nar _) (Nat.le_of_ble_eq_true rfl) (Nat.le_of_ble_eq_true rfl) ⟨_, _, rfl, rfl, hw10, (by have h1 := hr36.1; rw [guB_R q2] at h1; rw [hasB_R q2] at *; unfold bdB; simp_all), (fun hb9 => by have hc := hr36.2.2.trans c44_1; rw [hc]; unfold bdC; simp [show k = 7 by omega]), (by have hg := gu_st q2 hr36.2.1; have e1 : guB w m = true := (by rw [← guB_R q2, ← hr36.1]; simp_all); rw [e1] at hg; simpa [show k = 7 by omega] using hg)⟩
  · skip
    refine z_tsOut C 296 dX7_mayBody_6 c3r c3 (by decide) ?_
    have hk8 : k = 8 := by omega
    refine z_aload_n C 297 0 dX7_mayBody_296 rfl rfl ?_
    refine z_iload_n C 298 1 dX7_mayBody_297 rfl rfl ?_
    refine z_iload_n C 299 3 dX7_mayBody_298 rfl rfl ?_
    refine z_callVF (n' := 0) (k' := 0) (As := [.int (iI (m)), .int (iI (x))]) (rest := []) C hκ hκl 302 (k7_isParam hD hw1 (m) (x) r_m r_x q2_S (by omega)) dX7_mayBody_299 q2497 q2499 qs76 q97 q2500 znX7_isParam (Nat.le_of_ble_eq_true rfl) (Nat.le_of_ble_eq_true rfl) (Nat.le_of_ble_eq_true rfl) (Nat.le_of_ble_eq_true rfl) mrec rfl rfl (Nat.le_of_ble_eq_true rfl) rfl rfl rfl ?_
    refine z_ifB_eq C 338 305 dX7_mayBody_302 (by decide) rfl (fun c39 => ?_) (fun c39 => ?_)
    · skip
      have c39b : ¬ (0 ≤ (x) ∧ (x) < w1 18 (m)) := of_decide_eq_false c39
      refine z_iconst C 339 dX7_mayBody_338 rfl ?_
      refine z_istore (lv' := [(0, .ref (am)), (1, .int (iI (m))), (2, .int (iI (k))), (3, .int (iI (x))), (4, .int (iI (y))), (6, .int (iI (0)))]) C 341 [1, 2, 3, 4, 5, 0] dX7_mayBody_339 (by decide) rfl rfl ?_
      refine z_aload_n C 342 0 dX7_mayBody_341 rfl rfl ?_
      refine z_iload C 344 5 dX7_mayBody_342 rfl rfl ?_
      refine z_if_eq C 365 347 dX7_mayBody_344 (by decide) ⟨by decide, by decide⟩ rfl (fun c40 => ?_) (fun c40 => absurd c40 (by decide))
      refine z_iconst C 366 dX7_mayBody_365 rfl ?_
      obtain ⟨w11, ew11⟩ : ∃ wz, mset w1 44 (0) (-1) = wz := ⟨_, rfl⟩
      have hw11 : mWF w11 := ew11 ▸ hw1.set ⟨by decide, by decide⟩ rfl
      refine m_puti (w' := w11) C hκ 369 44 (by decide) (by decide) rfl q2039 rfl rfl rfl rfl dX7_mayBody_366 rfl ew11 ?_
      have c44_41 := (congrFun (congrFun ew11 44) 0).symm.trans mset_s
      have q42 : sR w w11 := (by rw [← ew11]; exact q2.set (by omega))
      have q42_19 : ∀ i, w11 19 i = w 19 i := fun i => q42 19 i (Or.inl (by decide))
      have q42_17 : ∀ i, w11 17 i = w 17 i := fun i => q42 17 i (Or.inl (by decide))
      have q42_1 : ∀ i, w11 1 i = w 1 i := fun i => q42 1 i (Or.inl (by decide))
      have q42_4 : ∀ i, w11 4 i = w 4 i := fun i => q42 4 i (Or.inl (by decide))
      have q42_18 : ∀ i, w11 18 i = w 18 i := fun i => q42 18 i (Or.inl (by decide))
      have q42_13 : ∀ i, w11 13 i = w 13 i := fun i => q42 13 i (Or.inl (by decide))
      have q42_11 : ∀ i, w11 11 i = w 11 i := fun i => q42 11 i (Or.inl (by decide))
      have q42_16 : ∀ i, w11 16 i = w 16 i := fun i => q42 16 i (Or.inl (by decide))
      have q42_0 : ∀ i, w11 0 i = w 0 i := fun i => q42 0 i (Or.inl (by decide))
      have q42_S := mS_R q42 hS
      have q42_r := fun i => q42_0 i; have q42_t := q42_0 0; have q42_u := q42_11 0
      obtain ⟨q42a, q42b, q42c, q42d⟩ := q42_S.M (m := m) (by omega) (by omega)
      refine z_iload C 371 5 dX7_mayBody_369 rfl rfl ?_
      refine z_if_eq C 412 374 dX7_mayBody_371 (by decide) ⟨by decide, by decide⟩ rfl (fun c43 => ?_) (fun c43 => absurd c43 (by decide))
      refine z_iconst C 413 dX7_mayBody_412 rfl ?_
      refine z_as (st' := [.int (iI (bI (false)))]) rfl rfl rfl ?_
      exact z_iret C dX7_mayBody_413 (bI_nar _) (Nat.le_of_ble_eq_true rfl) (Nat.le_of_ble_eq_true rfl) ⟨_, _, rfl, rfl, hw11, (by clear C hκ hκl; unfold bdB; first | ((try simp only [ipB_R q2, inB_R q2, fdB_R q2, reB_R q2, giB_R q2, hasB_R q2, mcF_R q2, mcK_R q2, guB_R q2, q2_19, q2_17, q2_1, q2_4] at *); (try simp only [ipB_R q42, inB_R q42, fdB_R q42, reB_R q42, giB_R q42, hasB_R q42, mcF_R q42, mcK_R q42, guB_R q42, q42_19, q42_17, q42_1, q42_4] at *); simp_all; done) | ((try simp only [ipB_R q2, inB_R q2, fdB_R q2, reB_R q2, giB_R q2, hasB_R q2, mcF_R q2, mcK_R q2, guB_R q2, q2_19, q2_17, q2_1, q2_4] at *); (try simp only [ipB_R q42, inB_R q42, fdB_R q42, reB_R q42, giB_R q42, hasB_R q42, mcF_R q42, mcK_R q42, guB_R q42, q42_19, q42_17, q42_1, q42_4] at *); grind)), (fun hb9 => by clear C hκ hκl; unfold bdC; first | ((try simp only [ipB_R q2, inB_R q2, fdB_R q2, reB_R q2, giB_R q2, hasB_R q2, mcF_R q2, mcK_R q2, guB_R q2, q2_19, q2_17, q2_1, q2_4] at *); (try simp only [ipB_R q42, inB_R q42, fdB_R q42, reB_R q42, giB_R q42, hasB_R q42, mcF_R q42, mcK_R q42, guB_R q42, q42_19, q42_17, q42_1, q42_4] at *); simp_all; done) | ((try simp only [ipB_R q2, inB_R q2, fdB_R q2, reB_R q2, giB_R q2, hasB_R q2, mcF_R q2, mcK_R q2, guB_R q2, q2_19, q2_17, q2_1, q2_4] at *); (try simp only [ipB_R q42, inB_R q42, fdB_R q42, reB_R q42, giB_R q42, hasB_R q42, mcF_R q42, mcK_R q42, guB_R q42, q42_19, q42_17, q42_1, q42_4] at *); grind)), (by first | (rw [if_neg (by simp_all)]; exact q42) | (exact sR.refl))⟩
    · skip
      have c39b : (0 ≤ (x) ∧ (x) < w1 18 (m)) := of_decide_eq_true c39
      refine z_aload_n C 306 0 dX7_mayBody_305 rfl rfl ?_
      refine z_iload_n C 307 1 dX7_mayBody_306 rfl rfl ?_
      refine z_iload C 309 4 dX7_mayBody_307 rfl rfl ?_
      refine z_callVF (n' := 0) (k' := 0) (As := [.int (iI (m)), .int (iI (y))]) (rest := []) C hκ hκl 312 (k7_isParam hD hw1 (m) (y) r_m r_y q2_S (by omega)) dX7_mayBody_309 q2497 q2499 qs76 q97 q2500 znX7_isParam (Nat.le_of_ble_eq_true rfl) (Nat.le_of_ble_eq_true rfl) (Nat.le_of_ble_eq_true rfl) (Nat.le_of_ble_eq_true rfl) mrec rfl rfl (Nat.le_of_ble_eq_true rfl) rfl rfl rfl ?_
      refine z_ifB_eq C 338 315 dX7_mayBody_312 (by decide) rfl (fun c44 => ?_) (fun c44 => ?_)
      · skip
        have c44b : ¬ (0 ≤ (y) ∧ (y) < w1 18 (m)) := of_decide_eq_false c44
        refine z_iconst C 339 dX7_mayBody_338 rfl ?_
        refine z_istore (lv' := [(0, .ref (am)), (1, .int (iI (m))), (2, .int (iI (k))), (3, .int (iI (x))), (4, .int (iI (y))), (6, .int (iI (0)))]) C 341 [1, 2, 3, 4, 5, 0] dX7_mayBody_339 (by decide) rfl rfl ?_
        refine z_aload_n C 342 0 dX7_mayBody_341 rfl rfl ?_
        refine z_iload C 344 5 dX7_mayBody_342 rfl rfl ?_
        refine z_if_eq C 365 347 dX7_mayBody_344 (by decide) ⟨by decide, by decide⟩ rfl (fun c45 => ?_) (fun c45 => absurd c45 (by decide))
        refine z_iconst C 366 dX7_mayBody_365 rfl ?_
        obtain ⟨w12, ew12⟩ : ∃ wz, mset w1 44 (0) (-1) = wz := ⟨_, rfl⟩
        have hw12 : mWF w12 := ew12 ▸ hw1.set ⟨by decide, by decide⟩ rfl
        refine m_puti (w' := w12) C hκ 369 44 (by decide) (by decide) rfl q2039 rfl rfl rfl rfl dX7_mayBody_366 rfl ew12 ?_
        have c44_46 := (congrFun (congrFun ew12 44) 0).symm.trans mset_s
        have q47 : sR w w12 := (by rw [← ew12]; exact q2.set (by omega))
        have q47_19 : ∀ i, w12 19 i = w 19 i := fun i => q47 19 i (Or.inl (by decide))
        have q47_17 : ∀ i, w12 17 i = w 17 i := fun i => q47 17 i (Or.inl (by decide))
        have q47_1 : ∀ i, w12 1 i = w 1 i := fun i => q47 1 i (Or.inl (by decide))
        have q47_4 : ∀ i, w12 4 i = w 4 i := fun i => q47 4 i (Or.inl (by decide))
        have q47_18 : ∀ i, w12 18 i = w 18 i := fun i => q47 18 i (Or.inl (by decide))
        have q47_13 : ∀ i, w12 13 i = w 13 i := fun i => q47 13 i (Or.inl (by decide))
        have q47_11 : ∀ i, w12 11 i = w 11 i := fun i => q47 11 i (Or.inl (by decide))
        have q47_16 : ∀ i, w12 16 i = w 16 i := fun i => q47 16 i (Or.inl (by decide))
        have q47_0 : ∀ i, w12 0 i = w 0 i := fun i => q47 0 i (Or.inl (by decide))
        have q47_S := mS_R q47 hS
        have q47_r := fun i => q47_0 i; have q47_t := q47_0 0; have q47_u := q47_11 0
        obtain ⟨q47a, q47b, q47c, q47d⟩ := q47_S.M (m := m) (by omega) (by omega)
        refine z_iload C 371 5 dX7_mayBody_369 rfl rfl ?_
        refine z_if_eq C 412 374 dX7_mayBody_371 (by decide) ⟨by decide, by decide⟩ rfl (fun c48 => ?_) (fun c48 => absurd c48 (by decide))
        refine z_iconst C 413 dX7_mayBody_412 rfl ?_
        refine z_as (st' := [.int (iI (bI (false)))]) rfl rfl rfl ?_
        exact z_iret C dX7_mayBody_413 (bI_nar _) (Nat.le_of_ble_eq_true rfl) (Nat.le_of_ble_eq_true rfl) ⟨_, _, rfl, rfl, hw12, (by clear C hκ hκl; unfold bdB; first | ((try simp only [ipB_R q2, inB_R q2, fdB_R q2, reB_R q2, giB_R q2, hasB_R q2, mcF_R q2, mcK_R q2, guB_R q2, q2_19, q2_17, q2_1, q2_4] at *); (try simp only [ipB_R q47, inB_R q47, fdB_R q47, reB_R q47, giB_R q47, hasB_R q47, mcF_R q47, mcK_R q47, guB_R q47, q47_19, q47_17, q47_1, q47_4] at *); simp_all; done) | ((try simp only [ipB_R q2, inB_R q2, fdB_R q2, reB_R q2, giB_R q2, hasB_R q2, mcF_R q2, mcK_R q2, guB_R q2, q2_19, q2_17, q2_1, q2_4] at *); (try simp only [ipB_R q47, inB_R q47, fdB_R q47, reB_R q47, giB_R q47, hasB_R q47, mcF_R q47, mcK_R q47, guB_R q47, q47_19, q47_17, q47_1, q47_4] at *); grind)), (fun hb9 => by clear C hκ hκl; unfold bdC; first | ((try simp only [ipB_R q2, inB_R q2, fdB_R q2, reB_R q2, giB_R q2, hasB_R q2, mcF_R q2, mcK_R q2, guB_R q2, q2_19, q2_17, q2_1, q2_4] at *); (try simp only [ipB_R q47, inB_R q47, fdB_R q47, reB_R q47, giB_R q47, hasB_R q47, mcF_R q47, mcK_R q47, guB_R q47, q47_19, q47_17, q47_1, q47_4] at *); simp_all; done) | ((try simp only [ipB_R q2, inB_R q2, fdB_R q2, reB_R q2, giB_R q2, hasB_R q2, mcF_R q2, mcK_R q2, guB_R q2, q2_19, q2_17, q2_1, q2_4] at *); (try simp only [ipB_R q47, inB_R q47, fdB_R q47, reB_R q47, giB_R q47, hasB_R q47, mcF_R q47, mcK_R q47, guB_R q47, q47_19, q47_17, q47_1, q47_4] at *); grind)), (by first | (rw [if_neg (by simp_all)]; exact q47) | (exact sR.refl))⟩
      · skip
        have c44b : (0 ≤ (y) ∧ (y) < w1 18 (m)) := of_decide_eq_true c44
        refine z_aload_n C 316 0 dX7_mayBody_315 rfl rfl ?_
        refine m_geta C hκ 319 1 (by decide) rfl q1996 rfl dX7_mayBody_316 rfl ?_
        refine z_aload_n C 320 0 dX7_mayBody_319 rfl rfl ?_
        refine m_geta C hκ 323 19 (by decide) rfl q2014 rfl dX7_mayBody_320 rfl ?_
        refine z_iconst C 324 dX7_mayBody_323 rfl ?_
        refine z_iload_n C 325 1 dX7_mayBody_324 rfl rfl ?_
        refine z_imul C 326 dX7_mayBody_325 rfl ?_
        refine z_iload_n C 327 3 dX7_mayBody_326 rfl rfl ?_
        refine z_iadd C 328 dX7_mayBody_327 rfl ?_
        refine m_iald (len := 300) C hκ hD 329 19 (by decide) rfl rfl (by omega) (by omega) dX7_mayBody_328 rfl ?_
        have p1 := q2d x (by omega) (by omega)
        obtain ⟨f49a, f49b, f49c, f49d, f49e, f49f, f49g, f49h⟩ := q2_S.T (show 0 ≤ w1 19 (((3) * (m)) + (x)) by omega) (by omega)
        refine m_iald (len := 60) C hκ hD 330 1 (by decide) rfl rfl (by omega) (by omega) dX7_mayBody_329 rfl ?_
        refine z_iconst C 331 dX7_mayBody_330 rfl ?_
        refine z_icmp_ne C 338 334 dX7_mayBody_331 (by decide) (hw1.r _ _ rfl) ⟨by decide, by decide⟩ rfl (fun c50 => ?_) (fun c50 => ?_)
        · skip
          refine z_iconst C 339 dX7_mayBody_338 rfl ?_
          refine z_istore (lv' := [(0, .ref (am)), (1, .int (iI (m))), (2, .int (iI (k))), (3, .int (iI (x))), (4, .int (iI (y))), (6, .int (iI (0)))]) C 341 [1, 2, 3, 4, 5, 0] dX7_mayBody_339 (by decide) rfl rfl ?_
          refine z_aload_n C 342 0 dX7_mayBody_341 rfl rfl ?_
          refine z_iload C 344 5 dX7_mayBody_342 rfl rfl ?_
          refine z_if_eq C 365 347 dX7_mayBody_344 (by decide) ⟨by decide, by decide⟩ rfl (fun c51 => ?_) (fun c51 => absurd c51 (by decide))
          refine z_iconst C 366 dX7_mayBody_365 rfl ?_
          obtain ⟨w13, ew13⟩ : ∃ wz, mset w1 44 (0) (-1) = wz := ⟨_, rfl⟩
          have hw13 : mWF w13 := ew13 ▸ hw1.set ⟨by decide, by decide⟩ rfl
          refine m_puti (w' := w13) C hκ 369 44 (by decide) (by decide) rfl q2039 rfl rfl rfl rfl dX7_mayBody_366 rfl ew13 ?_
          have c44_52 := (congrFun (congrFun ew13 44) 0).symm.trans mset_s
          have q53 : sR w w13 := (by rw [← ew13]; exact q2.set (by omega))
          have q53_19 : ∀ i, w13 19 i = w 19 i := fun i => q53 19 i (Or.inl (by decide))
          have q53_17 : ∀ i, w13 17 i = w 17 i := fun i => q53 17 i (Or.inl (by decide))
          have q53_1 : ∀ i, w13 1 i = w 1 i := fun i => q53 1 i (Or.inl (by decide))
          have q53_4 : ∀ i, w13 4 i = w 4 i := fun i => q53 4 i (Or.inl (by decide))
          have q53_18 : ∀ i, w13 18 i = w 18 i := fun i => q53 18 i (Or.inl (by decide))
          have q53_13 : ∀ i, w13 13 i = w 13 i := fun i => q53 13 i (Or.inl (by decide))
          have q53_11 : ∀ i, w13 11 i = w 11 i := fun i => q53 11 i (Or.inl (by decide))
          have q53_16 : ∀ i, w13 16 i = w 16 i := fun i => q53 16 i (Or.inl (by decide))
          have q53_0 : ∀ i, w13 0 i = w 0 i := fun i => q53 0 i (Or.inl (by decide))
          have q53_S := mS_R q53 hS
          have q53_r := fun i => q53_0 i; have q53_t := q53_0 0; have q53_u := q53_11 0
          obtain ⟨q53a, q53b, q53c, q53d⟩ := q53_S.M (m := m) (by omega) (by omega)
          refine z_iload C 371 5 dX7_mayBody_369 rfl rfl ?_
          refine z_if_eq C 412 374 dX7_mayBody_371 (by decide) ⟨by decide, by decide⟩ rfl (fun c54 => ?_) (fun c54 => absurd c54 (by decide))
          refine z_iconst C 413 dX7_mayBody_412 rfl ?_
          refine z_as (st' := [.int (iI (bI (false)))]) rfl rfl rfl ?_
          exact z_iret C dX7_mayBody_413 (bI_nar _) (Nat.le_of_ble_eq_true rfl) (Nat.le_of_ble_eq_true rfl) ⟨_, _, rfl, rfl, hw13, (by clear C hκ hκl; unfold bdB; first | ((try simp only [ipB_R q2, inB_R q2, fdB_R q2, reB_R q2, giB_R q2, hasB_R q2, mcF_R q2, mcK_R q2, guB_R q2, q2_19, q2_17, q2_1, q2_4] at *); (try simp only [ipB_R q53, inB_R q53, fdB_R q53, reB_R q53, giB_R q53, hasB_R q53, mcF_R q53, mcK_R q53, guB_R q53, q53_19, q53_17, q53_1, q53_4] at *); simp_all; done) | ((try simp only [ipB_R q2, inB_R q2, fdB_R q2, reB_R q2, giB_R q2, hasB_R q2, mcF_R q2, mcK_R q2, guB_R q2, q2_19, q2_17, q2_1, q2_4] at *); (try simp only [ipB_R q53, inB_R q53, fdB_R q53, reB_R q53, giB_R q53, hasB_R q53, mcF_R q53, mcK_R q53, guB_R q53, q53_19, q53_17, q53_1, q53_4] at *); grind)), (fun hb9 => by clear C hκ hκl; unfold bdC; first | ((try simp only [ipB_R q2, inB_R q2, fdB_R q2, reB_R q2, giB_R q2, hasB_R q2, mcF_R q2, mcK_R q2, guB_R q2, q2_19, q2_17, q2_1, q2_4] at *); (try simp only [ipB_R q53, inB_R q53, fdB_R q53, reB_R q53, giB_R q53, hasB_R q53, mcF_R q53, mcK_R q53, guB_R q53, q53_19, q53_17, q53_1, q53_4] at *); simp_all; done) | ((try simp only [ipB_R q2, inB_R q2, fdB_R q2, reB_R q2, giB_R q2, hasB_R q2, mcF_R q2, mcK_R q2, guB_R q2, q2_19, q2_17, q2_1, q2_4] at *); (try simp only [ipB_R q53, inB_R q53, fdB_R q53, reB_R q53, giB_R q53, hasB_R q53, mcF_R q53, mcK_R q53, guB_R q53, q53_19, q53_17, q53_1, q53_4] at *); grind)), (by first | (rw [if_neg (by simp_all)]; exact q53) | (exact sR.refl))⟩
        · skip
          refine z_iconst C 335 dX7_mayBody_334 rfl ?_
          refine z_goto C 339 dX7_mayBody_335 (by decide) ?_
          refine z_istore (lv' := [(0, .ref (am)), (1, .int (iI (m))), (2, .int (iI (k))), (3, .int (iI (x))), (4, .int (iI (y))), (6, .int (iI (1)))]) C 341 [1, 2, 3, 4, 5, 0] dX7_mayBody_339 (by decide) rfl rfl ?_
          refine z_aload_n C 342 0 dX7_mayBody_341 rfl rfl ?_
          refine z_iload C 344 5 dX7_mayBody_342 rfl rfl ?_
          refine z_if_eq C 365 347 dX7_mayBody_344 (by decide) ⟨by decide, by decide⟩ rfl (fun c55 => absurd c55 (by decide)) (fun c55 => ?_)
          refine z_aload_n C 348 0 dX7_mayBody_347 rfl rfl ?_
          refine m_geta C hκ 351 4 (by decide) rfl q1999 rfl dX7_mayBody_348 rfl ?_
          refine z_aload_n C 352 0 dX7_mayBody_351 rfl rfl ?_
          refine m_geta C hκ 355 19 (by decide) rfl q2014 rfl dX7_mayBody_352 rfl ?_
          refine z_iconst C 356 dX7_mayBody_355 rfl ?_
          refine z_iload_n C 357 1 dX7_mayBody_356 rfl rfl ?_
          refine z_imul C 358 dX7_mayBody_357 rfl ?_
          refine z_iload_n C 359 3 dX7_mayBody_358 rfl rfl ?_
          refine z_iadd C 360 dX7_mayBody_359 rfl ?_
          refine m_iald (len := 300) C hκ hD 361 19 (by decide) rfl rfl (by omega) (by omega) dX7_mayBody_360 rfl ?_
          refine m_iald (len := 60) C hκ hD 362 4 (by decide) rfl rfl (by omega) (by omega) dX7_mayBody_361 rfl ?_
          refine z_goto C 366 dX7_mayBody_362 (by decide) ?_
          obtain ⟨w14, ew14⟩ : ∃ wz, mset w1 44 (0) (w1 4 (w1 19 (((3) * (m)) + (x)))) = wz := ⟨_, rfl⟩
          have hw14 : mWF w14 := ew14 ▸ hw1.set (hw1.r _ _ rfl) rfl
          refine m_puti (w' := w14) C hκ 369 44 (by decide) (by decide) rfl q2039 rfl rfl rfl rfl dX7_mayBody_366 rfl ew14 ?_
          have c44_56 := (congrFun (congrFun ew14 44) 0).symm.trans mset_s
          have q57 : sR w w14 := (by rw [← ew14]; exact q2.set (by omega))
          have q57_19 : ∀ i, w14 19 i = w 19 i := fun i => q57 19 i (Or.inl (by decide))
          have q57_17 : ∀ i, w14 17 i = w 17 i := fun i => q57 17 i (Or.inl (by decide))
          have q57_1 : ∀ i, w14 1 i = w 1 i := fun i => q57 1 i (Or.inl (by decide))
          have q57_4 : ∀ i, w14 4 i = w 4 i := fun i => q57 4 i (Or.inl (by decide))
          have q57_18 : ∀ i, w14 18 i = w 18 i := fun i => q57 18 i (Or.inl (by decide))
          have q57_13 : ∀ i, w14 13 i = w 13 i := fun i => q57 13 i (Or.inl (by decide))
          have q57_11 : ∀ i, w14 11 i = w 11 i := fun i => q57 11 i (Or.inl (by decide))
          have q57_16 : ∀ i, w14 16 i = w 16 i := fun i => q57 16 i (Or.inl (by decide))
          have q57_0 : ∀ i, w14 0 i = w 0 i := fun i => q57 0 i (Or.inl (by decide))
          have q57_S := mS_R q57 hS
          have q57_r := fun i => q57_0 i; have q57_t := q57_0 0; have q57_u := q57_11 0
          obtain ⟨q57a, q57b, q57c, q57d⟩ := q57_S.M (m := m) (by omega) (by omega)
          refine z_iload C 371 5 dX7_mayBody_369 rfl rfl ?_
          refine z_if_eq C 412 374 dX7_mayBody_371 (by decide) ⟨by decide, by decide⟩ rfl (fun c58 => absurd c58 (by decide)) (fun c58 => ?_)
          refine z_aload_n C 375 0 dX7_mayBody_374 rfl rfl ?_
          refine m_geta C hκ 378 19 (by decide) rfl q2014 rfl dX7_mayBody_375 rfl ?_
          refine z_iconst C 379 dX7_mayBody_378 rfl ?_
          refine z_iload_n C 380 1 dX7_mayBody_379 rfl rfl ?_
          refine z_imul C 381 dX7_mayBody_380 rfl ?_
          refine z_iload C 383 4 dX7_mayBody_381 rfl rfl ?_
          refine z_iadd C 384 dX7_mayBody_383 rfl ?_
          refine m_iald (len := 300) C hκ hD 385 19 (by decide) rfl rfl (by omega) (by omega) dX7_mayBody_384 rfl ?_
          refine z_bipush C 387 dX7_mayBody_385 (by decide) rfl ?_
          refine z_icmp_ge C 412 390 dX7_mayBody_387 (by decide) (hw14.r _ _ rfl) ⟨by decide, by decide⟩ rfl (fun c59 => ?_) (fun c59 => ?_)
          · skip
            refine z_iconst C 413 dX7_mayBody_412 rfl ?_
            refine z_as (st' := [.int (iI (bI (false)))]) rfl rfl rfl ?_
            exact z_iret C dX7_mayBody_413 (bI_nar _) (Nat.le_of_ble_eq_true rfl) (Nat.le_of_ble_eq_true rfl) ⟨_, _, rfl, rfl, hw14, (by clear C hκ hκl; unfold bdB; first | ((try simp only [ipB_R q2, inB_R q2, fdB_R q2, reB_R q2, giB_R q2, hasB_R q2, mcF_R q2, mcK_R q2, guB_R q2, q2_19, q2_17, q2_1, q2_4] at *); (try simp only [ipB_R q57, inB_R q57, fdB_R q57, reB_R q57, giB_R q57, hasB_R q57, mcF_R q57, mcK_R q57, guB_R q57, q57_19, q57_17, q57_1, q57_4] at *); simp_all; done) | ((try simp only [ipB_R q2, inB_R q2, fdB_R q2, reB_R q2, giB_R q2, hasB_R q2, mcF_R q2, mcK_R q2, guB_R q2, q2_19, q2_17, q2_1, q2_4] at *); (try simp only [ipB_R q57, inB_R q57, fdB_R q57, reB_R q57, giB_R q57, hasB_R q57, mcF_R q57, mcK_R q57, guB_R q57, q57_19, q57_17, q57_1, q57_4] at *); grind)), (fun hb9 => by clear C hκ hκl; unfold bdC; first | ((try simp only [ipB_R q2, inB_R q2, fdB_R q2, reB_R q2, giB_R q2, hasB_R q2, mcF_R q2, mcK_R q2, guB_R q2, q2_19, q2_17, q2_1, q2_4] at *); (try simp only [ipB_R q57, inB_R q57, fdB_R q57, reB_R q57, giB_R q57, hasB_R q57, mcF_R q57, mcK_R q57, guB_R q57, q57_19, q57_17, q57_1, q57_4] at *); simp_all; done) | ((try simp only [ipB_R q2, inB_R q2, fdB_R q2, reB_R q2, giB_R q2, hasB_R q2, mcF_R q2, mcK_R q2, guB_R q2, q2_19, q2_17, q2_1, q2_4] at *); (try simp only [ipB_R q57, inB_R q57, fdB_R q57, reB_R q57, giB_R q57, hasB_R q57, mcF_R q57, mcK_R q57, guB_R q57, q57_19, q57_17, q57_1, q57_4] at *); grind)), (by first | (rw [if_neg (by simp_all)]; exact q57) | (exact sR.refl))⟩
          · skip
            refine z_aload_n C 391 0 dX7_mayBody_390 rfl rfl ?_
            refine m_geta C hκ 394 19 (by decide) rfl q2014 rfl dX7_mayBody_391 rfl ?_
            refine z_iconst C 395 dX7_mayBody_394 rfl ?_
            refine z_iload_n C 396 1 dX7_mayBody_395 rfl rfl ?_
            refine z_imul C 397 dX7_mayBody_396 rfl ?_
            refine z_iload C 399 4 dX7_mayBody_397 rfl rfl ?_
            refine z_iadd C 400 dX7_mayBody_399 rfl ?_
            refine m_iald (len := 300) C hκ hD 401 19 (by decide) rfl rfl (by omega) (by omega) dX7_mayBody_400 rfl ?_
            refine z_iconst C 402 dX7_mayBody_401 rfl ?_
            refine z_callSF (n' := 0) (k' := 0) (As := [.int (iI (w14 19 (((3) * (m)) + (y)))), .int (iI (4))]) (rest := []) C hκ hκl 405 (k7_widens (w14 19 (((3) * (m)) + (y))) (4) (hw14.r _ _ rfl) ⟨by decide, by decide⟩) dX7_mayBody_402 q2213 q2214 q97 q2215 znX7_widens (Nat.le_of_ble_eq_true rfl) (Nat.le_of_ble_eq_true rfl) (Nat.le_of_ble_eq_true rfl) (Nat.le_of_ble_eq_true rfl) rfl (Nat.le_of_ble_eq_true rfl) rfl rfl rfl ?_
            refine z_ifB_eq C 412 408 dX7_mayBody_405 (by decide) rfl (fun c60 => ?_) (fun c60 => ?_)
            · skip
              refine z_iconst C 413 dX7_mayBody_412 rfl ?_
              refine z_as (st' := [.int (iI (bI (false)))]) rfl rfl rfl ?_
              exact z_iret C dX7_mayBody_413 (bI_nar _) (Nat.le_of_ble_eq_true rfl) (Nat.le_of_ble_eq_true rfl) ⟨_, _, rfl, rfl, hw14, (by clear C hκ hκl; unfold bdB; first | ((try simp only [ipB_R q2, inB_R q2, fdB_R q2, reB_R q2, giB_R q2, hasB_R q2, mcF_R q2, mcK_R q2, guB_R q2, q2_19, q2_17, q2_1, q2_4] at *); (try simp only [ipB_R q57, inB_R q57, fdB_R q57, reB_R q57, giB_R q57, hasB_R q57, mcF_R q57, mcK_R q57, guB_R q57, q57_19, q57_17, q57_1, q57_4] at *); simp_all; done) | ((try simp only [ipB_R q2, inB_R q2, fdB_R q2, reB_R q2, giB_R q2, hasB_R q2, mcF_R q2, mcK_R q2, guB_R q2, q2_19, q2_17, q2_1, q2_4] at *); (try simp only [ipB_R q57, inB_R q57, fdB_R q57, reB_R q57, giB_R q57, hasB_R q57, mcF_R q57, mcK_R q57, guB_R q57, q57_19, q57_17, q57_1, q57_4] at *); grind)), (fun hb9 => by clear C hκ hκl; unfold bdC; first | ((try simp only [ipB_R q2, inB_R q2, fdB_R q2, reB_R q2, giB_R q2, hasB_R q2, mcF_R q2, mcK_R q2, guB_R q2, q2_19, q2_17, q2_1, q2_4] at *); (try simp only [ipB_R q57, inB_R q57, fdB_R q57, reB_R q57, giB_R q57, hasB_R q57, mcF_R q57, mcK_R q57, guB_R q57, q57_19, q57_17, q57_1, q57_4] at *); simp_all; done) | ((try simp only [ipB_R q2, inB_R q2, fdB_R q2, reB_R q2, giB_R q2, hasB_R q2, mcF_R q2, mcK_R q2, guB_R q2, q2_19, q2_17, q2_1, q2_4] at *); (try simp only [ipB_R q57, inB_R q57, fdB_R q57, reB_R q57, giB_R q57, hasB_R q57, mcF_R q57, mcK_R q57, guB_R q57, q57_19, q57_17, q57_1, q57_4] at *); grind)), (by first | (rw [if_neg (by simp_all)]; exact q57) | (exact sR.refl))⟩
            · skip
              refine z_iconst C 409 dX7_mayBody_408 rfl ?_
              refine z_goto C 413 dX7_mayBody_409 (by decide) ?_
              refine z_as (st' := [.int (iI (bI (true)))]) rfl rfl rfl ?_
              exact z_iret C dX7_mayBody_413 (bI_nar _) (Nat.le_of_ble_eq_true rfl) (Nat.le_of_ble_eq_true rfl) ⟨_, _, rfl, rfl, hw14, (by clear C hκ hκl; unfold bdB; first | ((try simp only [ipB_R q2, inB_R q2, fdB_R q2, reB_R q2, giB_R q2, hasB_R q2, mcF_R q2, mcK_R q2, guB_R q2, q2_19, q2_17, q2_1, q2_4] at *); (try simp only [ipB_R q57, inB_R q57, fdB_R q57, reB_R q57, giB_R q57, hasB_R q57, mcF_R q57, mcK_R q57, guB_R q57, q57_19, q57_17, q57_1, q57_4] at *); simp_all; done) | ((try simp only [ipB_R q2, inB_R q2, fdB_R q2, reB_R q2, giB_R q2, hasB_R q2, mcF_R q2, mcK_R q2, guB_R q2, q2_19, q2_17, q2_1, q2_4] at *); (try simp only [ipB_R q57, inB_R q57, fdB_R q57, reB_R q57, giB_R q57, hasB_R q57, mcF_R q57, mcK_R q57, guB_R q57, q57_19, q57_17, q57_1, q57_4] at *); grind)), (fun hb9 => by clear C hκ hκl; unfold bdC; first | ((try simp only [ipB_R q2, inB_R q2, fdB_R q2, reB_R q2, giB_R q2, hasB_R q2, mcF_R q2, mcK_R q2, guB_R q2, q2_19, q2_17, q2_1, q2_4] at *); (try simp only [ipB_R q57, inB_R q57, fdB_R q57, reB_R q57, giB_R q57, hasB_R q57, mcF_R q57, mcK_R q57, guB_R q57, q57_19, q57_17, q57_1, q57_4] at *); simp_all; done) | ((try simp only [ipB_R q2, inB_R q2, fdB_R q2, reB_R q2, giB_R q2, hasB_R q2, mcF_R q2, mcK_R q2, guB_R q2, q2_19, q2_17, q2_1, q2_4] at *); (try simp only [ipB_R q57, inB_R q57, fdB_R q57, reB_R q57, giB_R q57, hasB_R q57, mcF_R q57, mcK_R q57, guB_R q57, q57_19, q57_17, q57_1, q57_4] at *); grind)), (by first | (rw [if_neg (by simp_all)]; exact q57) | (exact sR.refl))⟩
