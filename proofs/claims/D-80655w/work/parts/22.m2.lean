/-! ===== the Model's layout of types ===== -/
theorem tkW_k {w : mW} {t f : Int} {n k : Nat} {i : Int} (h : k ≠ 8) : tkW w t f n k i = w k i := by
  induction n with
  | zero => rfl
  | succ n ih => simp only [tkW]; rw [mset_k h, ih]
theorem listW_k {w : mW} {t a : Int} {k : Nat} {i : Int} (h9 : k ≠ 9) (h10 : k ≠ 10) : listW w t a k i = w k i := by
  unfold listW
  split
  · rfl
  · rw [mset_k h10, mset_k h9]
theorem listW_n {w : mW} {t a t' : Int} (h : t' ≠ t) : listW w t a 10 t' = w 10 t' := by
  unfold listW
  split
  · rfl
  · rw [mset_i h, mset_k (by decide)]
theorem laW_k {w : mW} {t f : Int} {r : Bool} {n k : Nat} {i : Int} (h9 : k ≠ 9) (h10 : k ≠ 10) : laW w t f r n k i = w k i := by
  induction n with
  | zero => rfl
  | succ n ih =>
    simp only [laW]
    split
    · rw [listW_k h9 h10, ih]
    · exact ih
theorem laW_n {w : mW} {t f t' : Int} {r : Bool} {n : Nat} (h : t' ≠ t) : laW w t f r n 10 t' = w 10 t' := by
  induction n with
  | zero => rfl
  | succ n ih =>
    simp only [laW]
    split
    · rw [listW_n h, ih]
    · exact ih
theorem listW_wf {w : mW} {t a : Int} (hw : mWF w) (ha : inR a) (hn : inR (w 10 t + 1)) : mWF (listW w t a) := by
  unfold listW
  split
  · exact hw
  · exact (hw.set ha rfl).set hn rfl

set_option maxRecDepth 100000 in
theorem k7_takeOver {l : Launch} {θ : zTh} {N : zMap} {am : Nat} {ar : Nat → Nat} {w : mW} (hD : mDis am ar) (hw : mWF w) (t : Int) (f : Int) (r_t : inR t) (r_f : inR f) (hB : mB w) (ht : 0 ≤ t ∧ t < 60) (hf : 0 ≤ f ∧ f < 60) : ZF θ l yX7_takeOver cX7_takeOver 4 none ⟨0, 0, 0, 0⟩ [.ref (am), .int (iI (t)), .int (iI (f))] (mP θ am ar w N) none (mP θ am ar (tkW w t f (w 0 0).toNat) N) := by
  refine z_start (own := RX7) (nm := "takeOver") pnX7 rfl rfl (Nat.le_of_ble_eq_true rfl) ?_
  intro κ hκ hκl C
  change Z κ (mP θ am ar w N) 0 0 0 [(0, .ref (am)), (1, .int (iI (t))), (2, .int (iI (f)))] []
  have hB' := hB; obtain ⟨hB1, hB2, hB3, hB4, hB5, hB6⟩ := hB'
  refine z_iconst C 1 dX7_takeOver_0 rfl ?_
  refine z_istore_n (lv' := [(0, .ref (am)), (1, .int (iI (t))), (2, .int (iI (f))), (3, .int (iI (0)))]) C 2 [1, 2, 3, 0] dX7_takeOver_1 (by decide) rfl rfl ?_
  have L2_1 : ∀ (fu : Nat) (k : Nat) (w' : mW) (hk : (k : Int) ≤ w 0 0) (ew : w' = tkW w t f k) (hw' : mWF w') (hme : (w 0 0).toNat - k < fu), Z κ (mP θ am ar w' N) 0 0 2 [(0, .ref (am)), (1, .int (iI (t))), (2, .int (iI (f))), (3, .int (iI ((k : Int))))] [] := by
    intro fu
    induction fu with
    | zero => intro k w' hk ew hw' hme; exact absurd hme (Nat.not_lt_zero _)
    | succ fu ih2 =>
      intro k w' hk ew hw' hme
      have e0 : w' 0 0 = w 0 0 := by rw [ew]; exact tkW_k (by decide)
      refine z_iload_n C 3 3 dX7_takeOver_2 rfl rfl ?_
      refine z_aload_n C 4 0 dX7_takeOver_3 rfl rfl ?_
      refine m_geti C hκ 7 0 (by decide) rfl q1995 rfl dX7_takeOver_4 rfl ?_
      refine z_icmp_ge C 60 10 dX7_takeOver_7 (by decide) ⟨by omega, by omega⟩ ⟨by omega, by omega⟩ rfl (fun c3 => ?_) (fun c3 => ?_)
      · skip
        exact z_vret C dX7_takeOver_60 (Nat.le_of_ble_eq_true rfl) (Nat.le_of_ble_eq_true rfl) ⟨rfl, (congrArg (fun w' => mP θ am ar w' N) (by have e : k = (w 0 0).toNat := (by omega); subst e; exact ew))⟩
      · skip
        refine z_aload_n C 11 0 dX7_takeOver_10 rfl rfl ?_
        refine m_geta C hκ 14 8 (by decide) rfl q2003 rfl dX7_takeOver_11 rfl ?_
        refine z_bipush C 16 dX7_takeOver_14 (by decide) rfl ?_
        refine z_iload_n C 17 1 dX7_takeOver_16 rfl rfl ?_
        refine z_imul C 18 dX7_takeOver_17 rfl ?_
        refine z_iload_n C 19 3 dX7_takeOver_18 rfl rfl ?_
        refine z_iadd C 20 dX7_takeOver_19 rfl ?_
        refine z_aload_n C 21 0 dX7_takeOver_20 rfl rfl ?_
        refine m_geta C hκ 24 8 (by decide) rfl q2003 rfl dX7_takeOver_21 rfl ?_
        refine z_bipush C 26 dX7_takeOver_24 (by decide) rfl ?_
        refine z_iload_n C 27 1 dX7_takeOver_26 rfl rfl ?_
        refine z_imul C 28 dX7_takeOver_27 rfl ?_
        refine z_iload_n C 29 3 dX7_takeOver_28 rfl rfl ?_
        refine z_iadd C 30 dX7_takeOver_29 rfl ?_
        refine m_bald (len := 3600) C hκ hD hw' 31 8 (by decide) rfl rfl rfl (by omega) (by omega) dX7_takeOver_30 rfl ?_
        refine z_ifB_ne C 48 34 dX7_takeOver_31 (by decide) rfl (fun c4 => ?_) (fun c4 => ?_)
        · skip
          have c4b : (w' 8 (((60) * (t)) + ((k : Int))) = 1) := of_decide_eq_true c4
          refine z_iconst C 49 dX7_takeOver_48 rfl ?_
          refine z_goto C 53 dX7_takeOver_49 (by decide) ?_
          obtain ⟨w1, ew1⟩ : ∃ w9, mset w' 8 (((60) * (t)) + ((k : Int))) (1) = w9 := ⟨_, rfl⟩
          have hw1 : mWF w1 := ew1 ▸ hw'.setB (Or.inr rfl)
          refine m_bast (len := 3600) (w' := w1) C hκ hD 54 8 (by decide) rfl rfl (by omega) (by omega) (Or.inr rfl) dX7_takeOver_53 rfl ew1 ?_
          refine z_iinc (lv' := [(0, .ref (am)), (1, .int (iI (t))), (2, .int (iI (f))), (3, .int (iI (((k : Int)) + 1)))]) C 57 3 [1, 2, 3, 0] dX7_takeOver_54 rfl (by decide) rfl rfl ?_
          refine z_goto C 2 dX7_takeOver_57 (by decide) ?_
          refine z_as (lv' := [(0, .ref (am)), (1, .int (iI (t))), (2, .int (iI (f))), (3, .int (iI (((k + 1) : Int))))]) rfl rfl rfl ?_
          exact ih2 (k + 1) (w1) (by omega) (by clear C hκ hκl ih2 hme hw' e0; subst ew; subst ew1; simp only [tkW]; congr 1; simp_all [bI]) hw1 (by omega)
        · skip
          have c4b : ¬ (w' 8 (((60) * (t)) + ((k : Int))) = 1) := of_decide_eq_false c4
          refine z_aload_n C 35 0 dX7_takeOver_34 rfl rfl ?_
          refine m_geta C hκ 38 8 (by decide) rfl q2003 rfl dX7_takeOver_35 rfl ?_
          refine z_bipush C 40 dX7_takeOver_38 (by decide) rfl ?_
          refine z_iload_n C 41 2 dX7_takeOver_40 rfl rfl ?_
          refine z_imul C 42 dX7_takeOver_41 rfl ?_
          refine z_iload_n C 43 3 dX7_takeOver_42 rfl rfl ?_
          refine z_iadd C 44 dX7_takeOver_43 rfl ?_
          refine m_bald (len := 3600) C hκ hD hw' 45 8 (by decide) rfl rfl rfl (by omega) (by omega) dX7_takeOver_44 rfl ?_
          refine z_ifB_eq C 52 48 dX7_takeOver_45 (by decide) rfl (fun c5 => ?_) (fun c5 => ?_)
          · skip
            have c5b : ¬ (w' 8 (((60) * (f)) + ((k : Int))) = 1) := of_decide_eq_false c5
            refine z_iconst C 53 dX7_takeOver_52 rfl ?_
            obtain ⟨w2, ew2⟩ : ∃ w9, mset w' 8 (((60) * (t)) + ((k : Int))) (0) = w9 := ⟨_, rfl⟩
            have hw2 : mWF w2 := ew2 ▸ hw'.setB (Or.inl rfl)
            refine m_bast (len := 3600) (w' := w2) C hκ hD 54 8 (by decide) rfl rfl (by omega) (by omega) (Or.inl rfl) dX7_takeOver_53 rfl ew2 ?_
            refine z_iinc (lv' := [(0, .ref (am)), (1, .int (iI (t))), (2, .int (iI (f))), (3, .int (iI (((k : Int)) + 1)))]) C 57 3 [1, 2, 3, 0] dX7_takeOver_54 rfl (by decide) rfl rfl ?_
            refine z_goto C 2 dX7_takeOver_57 (by decide) ?_
            refine z_as (lv' := [(0, .ref (am)), (1, .int (iI (t))), (2, .int (iI (f))), (3, .int (iI (((k + 1) : Int))))]) rfl rfl rfl ?_
            exact ih2 (k + 1) (w2) (by omega) (by clear C hκ hκl ih2 hme hw' e0; subst ew; subst ew2; simp only [tkW]; congr 1; simp_all [bI]) hw2 (by omega)
          · skip
            have c5b : (w' 8 (((60) * (f)) + ((k : Int))) = 1) := of_decide_eq_true c5
            refine z_iconst C 49 dX7_takeOver_48 rfl ?_
            refine z_goto C 53 dX7_takeOver_49 (by decide) ?_
            obtain ⟨w3, ew3⟩ : ∃ w9, mset w' 8 (((60) * (t)) + ((k : Int))) (1) = w9 := ⟨_, rfl⟩
            have hw3 : mWF w3 := ew3 ▸ hw'.setB (Or.inr rfl)
            refine m_bast (len := 3600) (w' := w3) C hκ hD 54 8 (by decide) rfl rfl (by omega) (by omega) (Or.inr rfl) dX7_takeOver_53 rfl ew3 ?_
            refine z_iinc (lv' := [(0, .ref (am)), (1, .int (iI (t))), (2, .int (iI (f))), (3, .int (iI (((k : Int)) + 1)))]) C 57 3 [1, 2, 3, 0] dX7_takeOver_54 rfl (by decide) rfl rfl ?_
            refine z_goto C 2 dX7_takeOver_57 (by decide) ?_
            refine z_as (lv' := [(0, .ref (am)), (1, .int (iI (t))), (2, .int (iI (f))), (3, .int (iI (((k + 1) : Int))))]) rfl rfl rfl ?_
            exact ih2 (k + 1) (w3) (by omega) (by clear C hκ hκl ih2 hme hw' e0; subst ew; subst ew3; simp only [tkW]; congr 1; simp_all [bI]) hw3 (by omega)
  refine z_as (lv' := [(0, .ref (am)), (1, .int (iI (t))), (2, .int (iI (f))), (3, .int (iI (((0) : Int))))]) rfl rfl rfl ?_
  exact L2_1 _ (0) (w) (by omega) rfl hw (Nat.lt_succ_self _)
set_option maxRecDepth 100000 in
theorem k7_list {l : Launch} {θ : zTh} {N : zMap} {am : Nat} {ar : Nat → Nat} {w : mW} (hD : mDis am ar) (hw : mWF w) (t : Int) (a : Int) (r_t : inR t) (r_a : inR a) (ht : 0 ≤ t ∧ t < 60) (hn : 0 ≤ w 10 t ∧ w 10 t ≤ 60) (hr : lsB w t a = false → w 10 t < 60) : ZF θ l yX7_list cX7_list 3 none ⟨1, 0, 0, 24⟩ [.ref (am), .int (iI (t)), .int (iI (a))] (mP θ am ar w N) none (mP θ am ar (listW w t a) N) := by
  refine z_start (own := RX7) (nm := "list") pnX7 rfl rfl (Nat.le_of_ble_eq_true rfl) ?_
  intro κ hκ hκl C
  change Z κ (mP θ am ar w N) 0 0 0 [(0, .ref (am)), (1, .int (iI (t))), (2, .int (iI (a)))] []
  refine z_aload_n C 1 0 dX7_list_0 rfl rfl ?_
  refine z_iload_n C 2 1 dX7_list_1 rfl rfl ?_
  refine z_iload_n C 3 2 dX7_list_2 rfl rfl ?_
  refine z_callVF (n' := 0) (k' := 0) (As := [.int (iI (t)), .int (iI (a))]) (rest := []) C hκ hκl 6 (k7_isListed hD hw (t) (a) r_t r_a (by omega) (by omega)) dX7_list_3 q1983 q1985 qs36 q97 q1986 znX7_isListed (Nat.le_of_ble_eq_true rfl) (Nat.le_of_ble_eq_true rfl) (Nat.le_of_ble_eq_true rfl) (Nat.le_of_ble_eq_true rfl) mrec rfl rfl (Nat.le_of_ble_eq_true rfl) rfl rfl rfl ?_
  refine z_ifB_ne C 36 9 dX7_list_6 (by decide) rfl (fun c1 => ?_) (fun c1 => ?_)
  · skip
    exact z_vret C dX7_list_36 (Nat.le_of_ble_eq_true rfl) (Nat.le_of_ble_eq_true rfl) ⟨rfl, (congrArg (fun w' => mP θ am ar w' N) (by first | (unfold listW; rw [if_pos c1]) | (unfold listW; rw [if_neg (by rw [c1]; decide)]; subst_vars; rw [mset_k (show (10 : Nat) ≠ 9 by decide)])))⟩
  · skip
    have hr' := hr c1
    refine z_aload_n C 10 0 dX7_list_9 rfl rfl ?_
    refine m_geta C hκ 13 9 (by decide) rfl q2004 rfl dX7_list_10 rfl ?_
    refine z_bipush C 15 dX7_list_13 (by decide) rfl ?_
    refine z_iload_n C 16 1 dX7_list_15 rfl rfl ?_
    refine z_imul C 17 dX7_list_16 rfl ?_
    refine z_aload_n C 18 0 dX7_list_17 rfl rfl ?_
    refine m_geta C hκ 21 10 (by decide) rfl q2005 rfl dX7_list_18 rfl ?_
    refine z_iload_n C 22 1 dX7_list_21 rfl rfl ?_
    refine m_iald (len := 60) C hκ hD 23 10 (by decide) rfl rfl (by omega) (by omega) dX7_list_22 rfl ?_
    refine z_iadd C 24 dX7_list_23 rfl ?_
    refine z_iload_n C 25 2 dX7_list_24 rfl rfl ?_
    obtain ⟨w1, ew1⟩ : ∃ w9, mset w 9 (((60) * (t)) + (w 10 (t))) (a) = w9 := ⟨_, rfl⟩
    have hw1 : mWF w1 := ew1 ▸ hw.set r_a rfl
    refine m_iast (len := 3600) (w' := w1) C hκ hD 26 9 (by decide) rfl rfl (by omega) (by omega) dX7_list_25 rfl ew1 ?_
    have e8 : w1 10 t = w 10 t := by rw [← ew1]; exact mset_k (by decide)
    refine z_aload_n C 27 0 dX7_list_26 rfl rfl ?_
    refine m_geta C hκ 30 10 (by decide) rfl q2005 rfl dX7_list_27 rfl ?_
    refine z_iload_n C 31 1 dX7_list_30 rfl rfl ?_
    refine z_dup2 C 32 dX7_list_31 rfl rfl rfl ?_
    refine m_iald (len := 60) C hκ hD 33 10 (by decide) rfl rfl (by omega) (by omega) dX7_list_32 rfl ?_
    refine z_iconst C 34 dX7_list_33 rfl ?_
    refine z_iadd C 35 dX7_list_34 rfl ?_
    obtain ⟨w2, ew2⟩ : ∃ w9, mset w1 10 (t) ((w1 10 (t)) + (1)) = w9 := ⟨_, rfl⟩
    have hw2 : mWF w2 := ew2 ▸ hw1.set ⟨by omega, by omega⟩ rfl
    refine m_iast (len := 60) (w' := w2) C hκ hD 36 10 (by decide) rfl rfl (by omega) (by omega) dX7_list_35 rfl ew2 ?_
    exact z_vret C dX7_list_36 (Nat.le_of_ble_eq_true rfl) (Nat.le_of_ble_eq_true rfl) ⟨rfl, (congrArg (fun w' => mP θ am ar w' N) (by first | (unfold listW; rw [if_pos c1]) | (unfold listW; rw [if_neg (by rw [c1]; decide)]; subst_vars; rw [mset_k (show (10 : Nat) ≠ 9 by decide)])))⟩
def rowL (w : mW) (t : Int) (L : List Int) : Prop := w 10 t = L.length ∧ ∀ (k : Nat) (a : Int), L[k]? = some a → w 9 (60 * t + k) = a
def adL (L : List Int) (a : Int) : List Int := if a ∈ L then L else L ++ [a]
def adA (L : List Int) (r : Bool) (M : List Int) : List Int := M.foldl (fun L a => if r || decide (a ≠ 8) then adL L a else L) L
def rgL (T : Int) (L : List Int) : Prop := L.Nodup ∧ ∀ x ∈ L, 0 ≤ x ∧ x < T
theorem rgL_len : ∀ (n : Nat) (L : List Int), rgL n L → L.length ≤ n
  | 0, L, h => by
    cases L with
    | nil => simp
    | cons a L => have := h.2 a List.mem_cons_self; omega
  | n + 1, L, h => by
    have h2 : rgL n (L.erase (n : Int)) := by
      refine ⟨h.1.erase _, fun x hx => ?_⟩
      have h3 := (h.1.mem_erase_iff).mp hx
      have := h.2 x h3.2
      have := h3.1
      omega
    have h4 := rgL_len n _ h2
    by_cases hm : (n : Int) ∈ L
    · rw [List.length_erase_of_mem hm] at h4; omega
    · rw [List.erase_of_not_mem hm] at h4; omega
theorem rgL_le {T : Int} {L : List Int} (h : rgL T L) (hT : 0 ≤ T) : (L.length : Int) ≤ T := by
  have := rgL_len T.toNat L (by rw [Int.toNat_of_nonneg hT]; exact h)
  omega
theorem adL_rg {T a : Int} {L : List Int} (h : rgL T L) (ha : 0 ≤ a ∧ a < T) : rgL T (adL L a) := by
  unfold adL
  split
  · exact h
  · rename_i hm
    refine ⟨?_, fun x hx => ?_⟩
    · rw [List.nodup_append]
      exact ⟨h.1, by simp, fun x hx y hy => by simp at hy; subst hy; exact fun e => hm (e ▸ hx)⟩
    · rcases List.mem_append.mp hx with h1 | h1
      · exact h.2 x h1
      · simp at h1; subst h1; exact ha
theorem mem_adL {L : List Int} {a x : Int} : x ∈ adL L a ↔ x ∈ L ∨ x = a := by
  unfold adL
  split
  · rename_i h
    constructor
    · exact Or.inl
    · rintro (h1 | rfl)
      · exact h1
      · exact h
  · simp
theorem adA_cons {L M : List Int} {r : Bool} {a : Int} : adA L r (a :: M) = adA (if r || decide (a ≠ 8) then adL L a else L) r M := rfl
theorem adA_snoc {L M : List Int} {r : Bool} {a : Int} : adA L r (M ++ [a]) = if r || decide (a ≠ 8) then adL (adA L r M) a else adA L r M := by simp [adA, List.foldl_append]
theorem adA_rg {T : Int} {r : Bool} {M : List Int} (hM : ∀ x ∈ M, 0 ≤ x ∧ x < T) : ∀ {L : List Int}, rgL T L → rgL T (adA L r M) := by
  induction M with
  | nil => intro L h; exact h
  | cons a M ih =>
    intro L h
    rw [adA_cons]
    refine ih (fun x hx => hM x (List.mem_cons_of_mem _ hx)) ?_
    split
    · exact adL_rg h (hM a List.mem_cons_self)
    · exact h
theorem mem_adA {r : Bool} {M : List Int} {x : Int} : ∀ {L : List Int}, x ∈ adA L r M ↔ x ∈ L ∨ (x ∈ M ∧ (r = true ∨ x ≠ 8)) := by
  induction M with
  | nil => intro L; simp [adA]
  | cons a M ih =>
    intro L
    rw [adA_cons, ih]
    by_cases hc : (r || decide (a ≠ 8)) = true
    · rw [if_pos hc, mem_adL]
      simp only [Bool.or_eq_true, decide_eq_true_eq] at hc
      constructor
      · rintro ((h | rfl) | h)
        · exact Or.inl h
        · exact Or.inr ⟨List.mem_cons_self, hc⟩
        · exact Or.inr ⟨List.mem_cons_of_mem _ h.1, h.2⟩
      · rintro (h | ⟨h, h2⟩)
        · exact Or.inl (Or.inl h)
        · rcases List.mem_cons.mp h with rfl | h
          · exact Or.inl (Or.inr rfl)
          · exact Or.inr ⟨h, h2⟩
    · rw [if_neg hc]
      simp only [Bool.or_eq_true, decide_eq_true_eq] at hc
      constructor
      · rintro (h | h)
        · exact Or.inl h
        · exact Or.inr ⟨List.mem_cons_of_mem _ h.1, h.2⟩
      · rintro (h | ⟨h, h2⟩)
        · exact Or.inl h
        · rcases List.mem_cons.mp h with rfl | h
          · exact absurd h2 hc
          · exact Or.inr ⟨h, h2⟩
theorem lsB_mem {w : mW} {t a : Int} {L : List Int} (h : rowL w t L) : lsB w t a = true ↔ a ∈ L := by
  unfold lsB
  rw [anyN_t]
  constructor
  · rintro ⟨k, h1, h2⟩
    have hk : k < L.length := by have := h.1; omega
    have h3 := h.2 k _ (List.getElem?_eq_getElem hk)
    have h4 := of_decide_eq_true h2
    rw [← h4, h3]
    exact List.getElem_mem hk
  · intro hm
    obtain ⟨k, hk⟩ := List.getElem?_of_mem hm
    have hl := (List.getElem?_eq_some_iff.mp hk).1
    exact ⟨k, by have := h.1; omega, decide_eq_true (h.2 k a hk)⟩
theorem rowL_eq {w w' : mW} {t : Int} {L : List Int} (h : rowL w t L) (h1 : w' 10 t = w 10 t) (h2 : ∀ k : Nat, k < L.length → w' 9 (60 * t + k) = w 9 (60 * t + k)) : rowL w' t L :=
  ⟨h1.trans h.1, fun k a hk => (h2 k (List.getElem?_eq_some_iff.mp hk).1).trans (h.2 k a hk)⟩
theorem listW_row {w : mW} {t a : Int} {L : List Int} (h : rowL w t L) : rowL (listW w t a) t (adL L a) := by
  unfold listW adL
  by_cases hm : a ∈ L
  · rw [if_pos ((lsB_mem h).mpr hm), if_pos hm]; exact h
  · rw [if_neg (fun z => hm ((lsB_mem h).mp z)), if_neg hm]
    refine ⟨?_, fun k b hk => ?_⟩
    · rw [mset_s, h.1]; simp
    · rw [mset_k (show (9 : Nat) ≠ 10 by decide)]
      by_cases hl : k < L.length
      · rw [List.getElem?_append_left hl] at hk
        rw [mset_i (by have := h.1; omega)]
        exact h.2 k b hk
      · rw [List.getElem?_append_right (by omega)] at hk
        have hz : k - L.length < 1 := (List.getElem?_eq_some_iff.mp hk).1
        have hk0 : k = L.length := by omega
        subst hk0
        rw [Nat.sub_self] at hk
        cases hk
        rw [show (60 * t + (L.length : Int)) = 60 * t + w 10 t by rw [h.1], mset_s]
theorem listW_off {w : mW} {t a t' : Int} {L' : List Int} (hn : 0 ≤ w 10 t ∧ (lsB w t a = false → w 10 t < 60)) (hne : t' ≠ t) (hl : L'.length ≤ 60) (h : rowL w t' L') : rowL (listW w t a) t' L' := by
  unfold listW
  split
  · exact h
  · rename_i hls
    have := hn.2 (by simpa using hls)
    refine rowL_eq h (by rw [mset_i hne, mset_k (by decide)]) (fun k hk => ?_)
    rw [mset_k (by decide), mset_i (by omega)]
/-- all that a run of listAll keeps -/
theorem laW_all {w : mW} {t f T : Int} {r : Bool} {L M : List Int} (hw : mWF w) (hT : 0 ≤ T ∧ T ≤ 60) (hne : f ≠ t) (hL : rowL w t L) (hM : rowL w f M) (rL : rgL T L) (rM : rgL T M) : ∀ n : Nat, n ≤ M.length →
    mWF (laW w t f r n) ∧ rowL (laW w t f r n) t (adA L r (M.take n)) ∧ rowL (laW w t f r n) f M ∧ rgL T (adA L r (M.take n)) ∧ (∀ (t' : Int) (L' : List Int), t' ≠ t → L'.length ≤ 60 → rowL w t' L' → rowL (laW w t f r n) t' L') := by
  intro n
  induction n with
  | zero => intro _; exact ⟨hw, hL, hM, rL, fun t' L' _ _ h => h⟩
  | succ n ih =>
    intro hn
    obtain ⟨h1, h2, h3, h4, h5⟩ := ih (by omega)
    have hx : M[n]? = some M[n] := List.getElem?_eq_getElem (by omega)
    have hv := h3.2 n _ hx
    have htk : M.take (n + 1) = M.take n ++ [M[n]] := by rw [List.take_succ, hx]; rfl
    have hin := rM.2 M[n] (List.getElem_mem (by omega))
    have hlen := rgL_le h4 hT.1
    rw [htk, adA_snoc]
    simp only [laW, hv]
    by_cases hc : (r || decide (M[n] ≠ 8)) = true
    · rw [if_pos hc, if_pos hc]
      have h6 : lsB (laW w t f r n) t M[n] = false → laW w t f r n 10 t < 60 := by
        intro hl
        have hnm : M[n] ∉ adA L r (M.take n) := fun z => by rw [(lsB_mem h2).mpr z] at hl; cases hl
        have := rgL_le (adL_rg h4 hin) hT.1
        unfold adL at this
        rw [if_neg hnm, List.length_append] at this
        have := h2.1
        simp at *
        omega
      have h7 : 0 ≤ laW w t f r n 10 t := by rw [h2.1]; omega
      refine ⟨listW_wf h1 ⟨by omega, by omega⟩ ⟨by rw [h2.1]; omega, by rw [h2.1]; omega⟩, listW_row h2, ?_, adL_rg h4 hin, fun t' L' a b c => listW_off ⟨h7, h6⟩ a b (h5 t' L' a b c)⟩
      refine listW_off ⟨h7, h6⟩ hne ?_ h3
      have := rgL_le rM hT.1
      omega
    · rw [if_neg hc, if_neg hc]
      exact ⟨h1, h2, h3, h4, h5⟩

set_option maxRecDepth 100000 in
theorem k7_listAll {l : Launch} {θ : zTh} {N : zMap} {am : Nat} {ar : Nat → Nat} {w : mW} (hD : mDis am ar) (hw : mWF w) (t : Int) (f : Int) (r : Bool) (r_t : inR t) (r_f : inR f) {T : Int} {L M : List Int} (ht : 0 ≤ t ∧ t < 60) (hf : 0 ≤ f ∧ f < 60) (hT : 0 ≤ T ∧ T ≤ 60) (hne : f ≠ t) (hL : rowL w t L) (hM : rowL w f M) (rL : rgL T L) (rM : rgL T M) : ZF θ l yX7_listAll cX7_listAll 6 none ⟨2, 0, 0, 46⟩ [.ref (am), .int (iI (t)), .int (iI (f)), .int (iI (bI (r)))] (mP θ am ar w N) none (mP θ am ar (laW w t f r (w 10 f).toNat) N) := by
  refine z_start (own := RX7) (nm := "listAll") pnX7 rfl rfl (Nat.le_of_ble_eq_true rfl) ?_
  intro κ hκ hκl C
  change Z κ (mP θ am ar w N) 0 0 0 [(0, .ref (am)), (1, .int (iI (t))), (2, .int (iI (f))), (3, .int (iI (bI (r))))] []
  refine z_iconst C 1 dX7_listAll_0 rfl ?_
  refine z_istore (lv' := [(0, .ref (am)), (1, .int (iI (t))), (2, .int (iI (f))), (3, .int (iI (bI (r)))), (4, .int (iI (0)))]) C 3 [1, 2, 3, 4, 0] dX7_listAll_1 (by decide) rfl rfl ?_
  have L3_1 : ∀ (fu : Nat) (k : Nat) (w' : mW) (hk : (k : Int) ≤ w 10 f) (ew : w' = laW w t f r k) (hw' : mWF w') (hme : (w 10 f).toNat - k < fu), Z κ (mP θ am ar w' N) 0 0 3 [(0, .ref (am)), (1, .int (iI (t))), (2, .int (iI (f))), (3, .int (iI (bI (r)))), (4, .int (iI ((k : Int))))] [] := by
    intro fu
    induction fu with
    | zero => intro k w' hk ew hw' hme; exact absurd hme (Nat.not_lt_zero _)
    | succ fu ih2 =>
      intro k w' hk ew hw' hme
      have g10 := hM.1
      obtain ⟨g1, g2, g3, g4, g5⟩ := laW_all (r := r) hw hT hne hL hM rL rM k (by omega)
      rw [← ew] at g1 g2 g3
      have g6 := rgL_le g4 hT.1
      have g7 := g2.1
      have g8 := g3.1
      have g9 := rgL_le rM hT.1
      refine z_iload C 5 4 dX7_listAll_3 rfl rfl ?_
      refine z_aload_n C 6 0 dX7_listAll_5 rfl rfl ?_
      refine m_geta C hκ 9 10 (by decide) rfl q2005 rfl dX7_listAll_6 rfl ?_
      refine z_iload_n C 10 2 dX7_listAll_9 rfl rfl ?_
      refine m_iald (len := 60) C hκ hD 11 10 (by decide) rfl rfl (by omega) (by omega) dX7_listAll_10 rfl ?_
      refine z_icmp_ge C 52 14 dX7_listAll_11 (by decide) ⟨by omega, by omega⟩ ⟨by omega, by omega⟩ rfl (fun c3 => ?_) (fun c3 => ?_)
      · skip
        exact z_vret C dX7_listAll_52 (Nat.le_of_ble_eq_true rfl) (Nat.le_of_ble_eq_true rfl) ⟨rfl, (congrArg (fun w' => mP θ am ar w' N) (by have e : k = (w 10 f).toNat := (by omega); subst e; exact ew))⟩
      · skip
        have hkl : k < M.length := by omega
        have g11 := g3.2 k _ (List.getElem?_eq_getElem hkl)
        have g12 := rM.2 _ (List.getElem_mem hkl)
        have g13 : inR (w' 9 (60 * f + k)) := hw'.r _ _ rfl
        refine z_aload_n C 15 0 dX7_listAll_14 rfl rfl ?_
        refine m_geta C hκ 18 9 (by decide) rfl q2004 rfl dX7_listAll_15 rfl ?_
        refine z_bipush C 20 dX7_listAll_18 (by decide) rfl ?_
        refine z_iload_n C 21 2 dX7_listAll_20 rfl rfl ?_
        refine z_imul C 22 dX7_listAll_21 rfl ?_
        refine z_iload C 24 4 dX7_listAll_22 rfl rfl ?_
        refine z_iadd C 25 dX7_listAll_24 rfl ?_
        refine m_iald (len := 3600) C hκ hD 26 9 (by decide) rfl rfl (by omega) (by omega) dX7_listAll_25 rfl ?_
        refine z_istore (lv' := [(0, .ref (am)), (1, .int (iI (t))), (2, .int (iI (f))), (3, .int (iI (bI (r)))), (4, .int (iI ((k : Int)))), (5, .int (iI (w' 9 (((60) * (f)) + ((k : Int))))))]) C 28 [1, 2, 3, 4, 5, 0] dX7_listAll_26 (by decide) rfl rfl ?_
        refine z_iload_n C 29 3 dX7_listAll_28 rfl rfl ?_
        refine z_ifB_ne C 39 32 dX7_listAll_29 (by decide) rfl (fun c4 => ?_) (fun c4 => ?_)
        · skip
          have g14 : lsB w' t (w' 9 (60 * f + k)) = false → w' 10 t < 60 := by
            intro hl
            have hnm : M[k] ∉ adA L r (M.take k) := fun z => by rw [g11, (lsB_mem g2).mpr z] at hl; cases hl
            have z1 := rgL_le (adL_rg g4 g12) hT.1
            unfold adL at z1
            rw [if_neg hnm, List.length_append] at z1
            simp only [List.length_cons, List.length_nil] at z1
            omega
          refine z_aload_n C 40 0 dX7_listAll_39 rfl rfl ?_
          refine z_iload_n C 41 1 dX7_listAll_40 rfl rfl ?_
          refine z_iload C 43 5 dX7_listAll_41 rfl rfl ?_
          refine z_callVF0 (n' := 0) (k' := 0) (As := [.int (iI (t)), .int (iI (w' 9 (((60) * (f)) + ((k : Int)))))]) (rest := []) C hκ hκl 46 (k7_list hD hw' (t) (w' 9 (((60) * (f)) + ((k : Int)))) ⟨by omega, by omega⟩ g13 (by omega) (by omega) g14) dX7_listAll_43 q1979 q1981 qs35 q97 q1982 znX7_list (Nat.le_of_ble_eq_true rfl) (Nat.le_of_ble_eq_true rfl) (Nat.le_of_ble_eq_true rfl) (Nat.le_of_ble_eq_true rfl) mrec rfl rfl (Nat.le_of_ble_eq_true rfl) rfl rfl rfl ?_
          obtain ⟨w1, ew1⟩ : ∃ w9, listW w' (t) (w' 9 (((60) * (f)) + ((k : Int)))) = w9 := ⟨_, rfl⟩
          rw [ew1]
          have hw1 : mWF w1 := ew1 ▸ (listW_wf hw' (by first | assumption | exact ⟨by omega, by omega⟩) ⟨by omega, by omega⟩)
          refine z_iinc (lv' := [(0, .ref (am)), (1, .int (iI (t))), (2, .int (iI (f))), (3, .int (iI (bI (r)))), (4, .int (iI (((k : Int)) + 1))), (5, .int (iI (w' 9 (((60) * (f)) + ((k : Int))))))]) C 49 4 [1, 2, 3, 4, 0, 5] dX7_listAll_46 rfl (by decide) rfl rfl ?_
          refine z_goto C 3 dX7_listAll_49 (by decide) ?_
          refine z_sub [0, 1, 2, 3, 4] (lv' := [(0, .ref (am)), (1, .int (iI (t))), (2, .int (iI (f))), (3, .int (iI (bI (r)))), (4, .int (iI (((k : Int)) + 1)))]) rfl ?_
          refine z_as (lv' := [(0, .ref (am)), (1, .int (iI (t))), (2, .int (iI (f))), (3, .int (iI (bI (r)))), (4, .int (iI (((k + 1) : Int))))]) rfl rfl rfl ?_
          exact ih2 (k + 1) (w1) (by omega) (by clear C hκ hκl g1 g2 g3 g4 g5 g6 g7 g8 g11 g12 g13 g14 hM hL rL rM; rw [← ew1, ew]; simp only [laW]; rw [if_pos]; rw [← ew]; simp_all) hw1 (by omega)
        · skip
          refine z_iload C 34 5 dX7_listAll_32 rfl rfl ?_
          refine z_bipush C 36 dX7_listAll_34 (by decide) rfl ?_
          refine z_icmp_eq C 46 39 dX7_listAll_36 (by decide) ⟨by omega, by omega⟩ ⟨by decide, by decide⟩ rfl (fun c5 => ?_) (fun c5 => ?_)
          · skip
            refine z_iinc (lv' := [(0, .ref (am)), (1, .int (iI (t))), (2, .int (iI (f))), (3, .int (iI (bI (r)))), (4, .int (iI (((k : Int)) + 1))), (5, .int (iI (w' 9 (((60) * (f)) + ((k : Int))))))]) C 49 4 [1, 2, 3, 4, 0, 5] dX7_listAll_46 rfl (by decide) rfl rfl ?_
            refine z_goto C 3 dX7_listAll_49 (by decide) ?_
            refine z_sub [0, 1, 2, 3, 4] (lv' := [(0, .ref (am)), (1, .int (iI (t))), (2, .int (iI (f))), (3, .int (iI (bI (r)))), (4, .int (iI (((k : Int)) + 1)))]) rfl ?_
            refine z_as (lv' := [(0, .ref (am)), (1, .int (iI (t))), (2, .int (iI (f))), (3, .int (iI (bI (r)))), (4, .int (iI (((k + 1) : Int))))]) rfl rfl rfl ?_
            exact ih2 (k + 1) (w') (by omega) (by clear C hκ hκl g1 g2 g3 g4 g5 g6 g7 g8 g11 g12 g13 hM hL rL rM; rw [ew]; simp only [laW]; rw [if_neg]; rw [← ew]; simp_all) hw' (by omega)
          · skip
            have g14 : lsB w' t (w' 9 (60 * f + k)) = false → w' 10 t < 60 := by
              intro hl
              have hnm : M[k] ∉ adA L r (M.take k) := fun z => by rw [g11, (lsB_mem g2).mpr z] at hl; cases hl
              have z1 := rgL_le (adL_rg g4 g12) hT.1
              unfold adL at z1
              rw [if_neg hnm, List.length_append] at z1
              simp only [List.length_cons, List.length_nil] at z1
              omega
            refine z_aload_n C 40 0 dX7_listAll_39 rfl rfl ?_
            refine z_iload_n C 41 1 dX7_listAll_40 rfl rfl ?_
            refine z_iload C 43 5 dX7_listAll_41 rfl rfl ?_
            refine z_callVF0 (n' := 0) (k' := 0) (As := [.int (iI (t)), .int (iI (w' 9 (((60) * (f)) + ((k : Int)))))]) (rest := []) C hκ hκl 46 (k7_list hD hw' (t) (w' 9 (((60) * (f)) + ((k : Int)))) ⟨by omega, by omega⟩ g13 (by omega) (by omega) g14) dX7_listAll_43 q1979 q1981 qs35 q97 q1982 znX7_list (Nat.le_of_ble_eq_true rfl) (Nat.le_of_ble_eq_true rfl) (Nat.le_of_ble_eq_true rfl) (Nat.le_of_ble_eq_true rfl) mrec rfl rfl (Nat.le_of_ble_eq_true rfl) rfl rfl rfl ?_
            obtain ⟨w2, ew2⟩ : ∃ w9, listW w' (t) (w' 9 (((60) * (f)) + ((k : Int)))) = w9 := ⟨_, rfl⟩
            rw [ew2]
            have hw2 : mWF w2 := ew2 ▸ (listW_wf hw' (by first | assumption | exact ⟨by omega, by omega⟩) ⟨by omega, by omega⟩)
            refine z_iinc (lv' := [(0, .ref (am)), (1, .int (iI (t))), (2, .int (iI (f))), (3, .int (iI (bI (r)))), (4, .int (iI (((k : Int)) + 1))), (5, .int (iI (w' 9 (((60) * (f)) + ((k : Int))))))]) C 49 4 [1, 2, 3, 4, 0, 5] dX7_listAll_46 rfl (by decide) rfl rfl ?_
            refine z_goto C 3 dX7_listAll_49 (by decide) ?_
            refine z_sub [0, 1, 2, 3, 4] (lv' := [(0, .ref (am)), (1, .int (iI (t))), (2, .int (iI (f))), (3, .int (iI (bI (r)))), (4, .int (iI (((k : Int)) + 1)))]) rfl ?_
            refine z_as (lv' := [(0, .ref (am)), (1, .int (iI (t))), (2, .int (iI (f))), (3, .int (iI (bI (r)))), (4, .int (iI (((k + 1) : Int))))]) rfl rfl rfl ?_
            exact ih2 (k + 1) (w2) (by omega) (by clear C hκ hκl g1 g2 g3 g4 g5 g6 g7 g8 g11 g12 g13 g14 hM hL rL rM; rw [← ew2, ew]; simp only [laW]; rw [if_pos]; rw [← ew]; simp_all) hw2 (by omega)
  refine z_as (lv' := [(0, .ref (am)), (1, .int (iI (t))), (2, .int (iI (f))), (3, .int (iI (bI (r)))), (4, .int (iI (((0) : Int))))]) rfl rfl rfl ?_
  exact L3_1 _ (0) (w) (by have := hM.1; omega) rfl hw (Nat.lt_succ_self _)
