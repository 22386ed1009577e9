/-! ===== the Model: made ===== -/
def mFp (S : List Nat) (ar : Nat → Nat) (w : mW) (k : Nat) : Value := if k ∈ mIx then (if k ∈ S then .ref (ar k) else .null) else if k = 50 then .long (lI (w 50 0)) else .int (iI (w k 0))
def mObP (S : List Nat) (ar : Nat → Nat) (w : mW) : List Value := (List.range 52).map (mFp S ar w)
/-- the picture while arrays are laid -/
def mMpP (θ : zTh) (am : Nat) (ar : Nat → Nat) (w : mW) (S : List Nat) : zMap := fun a => if a = am then some (.inr (7, mObP S ar w)) else (S.find? (fun j => decide (ar j = a))).map (mArr θ w)
def mDisP (am : Nat) (ar : Nat → Nat) (S : List Nat) : Prop := (∀ i ∈ S, ∀ j ∈ S, ar i = ar j → i = j) ∧ ∀ j ∈ S, ar j ≠ am
theorem mMpP_o {θ : zTh} {am : Nat} {ar : Nat → Nat} {w : mW} {S : List Nat} : mMpP θ am ar w S am = some (.inr (7, mObP S ar w)) := by simp [mMpP]
theorem mMpP_none {θ : zTh} {am a : Nat} {ar : Nat → Nat} {w : mW} {S : List Nat} (h : mMpP θ am ar w S a = none) : a ≠ am ∧ ∀ j ∈ S, ar j ≠ a := by
  unfold mMpP at h
  by_cases e : a = am
  · rw [if_pos e] at h; cases h
  · rw [if_neg e] at h
    refine ⟨e, fun j hj hja => ?_⟩
    rw [Option.map_eq_none_iff] at h
    have := List.find?_eq_none.mp h j hj
    simp [hja] at this
theorem mset_list {S : List Nat} {ar ar' : Nat → Nat} {w w' : mW} {k : Nat} {v : Value} (hk : k < 52) (h1 : mFp S ar' w' k = v) (h2 : ∀ j, j ≠ k → mFp S ar' w' j = mFp S ar w j) : (mObP S ar w).set k v = mObP S ar' w' := by
  unfold mObP
  apply List.ext_getElem?
  intro j
  rw [List.getElem?_set, List.getElem?_map, List.getElem?_map]
  by_cases e : k = j
  · subst e
    rw [if_pos rfl, List.getElem?_range hk]
    simp [hk, h1]
  · rw [if_neg e]
    by_cases hj : j < 52
    · rw [List.getElem?_range hj]; simp [h2 j (fun z => e z.symm)]
    · rw [List.getElem?_eq_none (by simp; omega)]; rfl
theorem mObP_set {S S' : List Nat} {ar ar' : Nat → Nat} {w w' : mW} {k : Nat} {v : Value} (hk : k < 52) (h1 : mFp S' ar' w' k = v) (h2 : ∀ j, j ≠ k → mFp S' ar' w' j = mFp S ar w j) : (mObP S ar w).set k v = mObP S' ar' w' := by
  unfold mObP
  apply List.ext_getElem?
  intro j
  rw [List.getElem?_set, List.getElem?_map, List.getElem?_map]
  by_cases e : k = j
  · subst e
    rw [if_pos rfl, List.getElem?_range hk]
    simp [hk, h1]
  · rw [if_neg e]
    by_cases hj : j < 52
    · rw [List.getElem?_range hj]; simp [h2 j (fun z => e z.symm)]
    · rw [List.getElem?_eq_none (by simp; omega)]; rfl
theorem m_step {θ : zTh} {am a : Nat} {ar : Nat → Nat} {w : mW} {S : List Nat} {k : Nat} (hD : mDisP am ar S) (hk : k ∈ mIx) (hkS : k ∉ S) (ha : mMpP θ am ar w S a = none) : ∃ ar', mDisP am ar' (S ++ [k]) ∧ zup (zup (mMpP θ am ar w S) a (mArr θ w k)) am (.inr (7, (mObP S ar w).set k (.ref a))) = mMpP θ am ar' w (S ++ [k]) := by
  obtain ⟨h1, h2⟩ := mMpP_none ha
  have hk52 : k < 52 := (show ∀ k ∈ mIx, k < 52 by decide) k hk
  refine ⟨fun j => if j = k then a else ar j, ⟨fun i hi j hj h => ?_, fun j hj => ?_⟩, ?_⟩
  · rcases List.mem_append.mp hi with hi | hi <;> rcases List.mem_append.mp hj with hj | hj
    · have ei : i ≠ k := fun z => hkS (z ▸ hi)
      have ej : j ≠ k := fun z => hkS (z ▸ hj)
      simp only [ei, ej, if_false] at h
      exact hD.1 i hi j hj h
    · have ei : i ≠ k := fun z => hkS (z ▸ hi)
      have ej : j = k := by simpa using hj
      simp only [ei, ej, if_false, if_true] at h
      exact absurd h (h2 i hi)
    · have ei : i = k := by simpa using hi
      have ej : j ≠ k := fun z => hkS (z ▸ hj)
      simp only [ei, ej, if_false, if_true] at h
      exact absurd h.symm (h2 j hj)
    · have ei : i = k := by simpa using hi
      have ej : j = k := by simpa using hj
      omega
  · rcases List.mem_append.mp hj with hj | hj
    · have ej : j ≠ k := fun z => hkS (z ▸ hj)
      simp only [ej, if_false]
      exact hD.2 j hj
    · have ej : j = k := by simpa using hj
      simp only [ej, if_true]
      exact h1
  · funext b
    by_cases eb : b = am
    · subst eb
      rw [zup_s, mMpP_o]
      congr 2
      congr 1
      refine mObP_set hk52 ?_ ?_
      · unfold mFp; rw [if_pos hk, if_pos (by simp)]; simp
      · intro j hj
        unfold mFp
        by_cases hm : j ∈ mIx
        · rw [if_pos hm, if_pos hm]
          by_cases hs : j ∈ S
          · rw [if_pos (List.mem_append_left _ hs), if_pos hs]; simp [hj]
          · rw [if_neg (by simp [hs, hj]), if_neg hs]
        · rw [if_neg hm, if_neg hm]
    · rw [zup_n eb]
      unfold mMpP
      rw [if_neg eb]
      by_cases ea : b = a
      · subst ea
        rw [zup_s, List.find?_append]
        have : S.find? (fun j => decide ((if j = k then b else ar j) = b)) = none := by
          rw [List.find?_eq_none]
          intro j hj
          have ej : j ≠ k := fun z => hkS (z ▸ hj)
          simp [ej, h2 j hj]
        rw [this]
        simp
      · rw [zup_n ea]
        rw [if_neg eb, List.find?_append]
        have e1 : S.find? (fun j => decide ((if j = k then a else ar j) = b)) = S.find? (fun j => decide (ar j = b)) := by
          have : ∀ L : List Nat, (∀ j ∈ L, j ≠ k) → L.find? (fun j => decide ((if j = k then a else ar j) = b)) = L.find? (fun j => decide (ar j = b)) := by
            intro L
            induction L with
            | nil => intro _; rfl
            | cons x L ih =>
              intro h
              have hx := h x List.mem_cons_self
              rw [List.find?_cons, List.find?_cons, ih (fun j hj => h j (List.mem_cons_of_mem _ hj))]
              simp [hx]
          exact this S (fun j hj z => hkS (z ▸ hj))
        rw [e1]
        have e2 : [k].find? (fun j => decide ((if j = k then a else ar j) = b)) = none := by
          have ea2 : ¬ a = b := fun z => ea z.symm
          simp [ea2]
        rw [e2]
        cases S.find? (fun j => decide (ar j = b)) <;> rfl
theorem m_stepi {θ : zTh} {am : Nat} {ar : Nat → Nat} {w : mW} {S : List Nat} {k : Nat} {z : Int} (hk : k ∉ mIx) (hS : ∀ j ∈ S, j ∈ mIx) (hk5 : k < 50) : zup (mMpP θ am ar w S) am (.inr (7, (mObP S ar w).set k (.int (iI z)))) = mMpP θ am ar (mset w k 0 z) S := by
  have hm : ∀ j, j ≠ k → mFp S ar (mset w k 0 z) j = mFp S ar w j := by
    intro j hj
    unfold mFp
    by_cases hm : j ∈ mIx
    · rw [if_pos hm, if_pos hm]
    · rw [if_neg hm, if_neg hm]
      by_cases h5 : j = 50
      · rw [if_pos h5, if_pos h5, mset_k (by omega)]
      · rw [if_neg h5, if_neg h5, mset_k hj]
  funext b
  by_cases eb : b = am
  · subst eb
    rw [zup_s, mMpP_o]
    congr 2
    congr 1
    refine mObP_set (by omega) ?_ hm
    unfold mFp
    rw [if_neg hk, if_neg (by omega), mset_s]
  · rw [zup_n eb]
    unfold mMpP
    rw [if_neg eb, if_neg eb]
    have : ∀ j ∈ S, mArr θ (mset w k 0 z) j = mArr θ w j := fun j hj => mArr_ne (fun e => hk (e ▸ hS j hj))
    cases hf : S.find? (fun j => decide (ar j = b)) with
    | none => rfl
    | some j => simp only [Option.map_some]; rw [this j (List.mem_of_find?_eq_some hf)]
theorem m_full {θ : zTh} {am : Nat} {ar : Nat → Nat} {w : mW} : mMpP θ am ar w mIx = mMap θ am ar w := by
  have : mObP mIx ar w = mObj ar w := by
    unfold mObP mObj
    congr 1
    funext k
    unfold mFp mFv
    by_cases h : k ∈ mIx
    · rw [if_pos h, if_pos h, if_pos h]
    · rw [if_neg h, if_neg h]
  funext b
  unfold mMpP mMap
  rw [this]
/-- nothing yet -/
def m00 : mW := fun _ _ => 0
def nnW (w : mW) : Nat → mW
  | 0 => w
  | n + 1 => mset (mset (mset (nnW w n) 2 n (-1)) 4 n (-1)) 5 n (-1)
def skW (w : mW) : Nat → mW
  | 0 => w
  | n + 1 => mset (skW w n) 32 n 4
def m01 : mW := mset (mset m00 0 0 9) 34 0 8
def iniW : mW := skW (mset (nnW m01 60) 1 8 1) 8
theorem m00_wf : mWF m00 := fun _ _ => ⟨fun _ => (show inR 0 from ⟨by decide, by decide⟩), (show inL 0 from ⟨by decide, by decide⟩), fun _ => Or.inl rfl⟩
theorem m01_wf : mWF m01 := (m00_wf.set ⟨by decide, by decide⟩ rfl).set ⟨by decide, by decide⟩ rfl
theorem nnW_wf {w : mW} (hw : mWF w) : ∀ n : Nat, mWF (nnW w n)
  | 0 => hw
  | n + 1 => (((nnW_wf hw n).set ⟨by decide, by decide⟩ rfl).set ⟨by decide, by decide⟩ rfl).set ⟨by decide, by decide⟩ rfl
theorem skW_wf {w : mW} (hw : mWF w) : ∀ n : Nat, mWF (skW w n)
  | 0 => hw
  | n + 1 => (skW_wf hw n).set ⟨by decide, by decide⟩ rfl
theorem nnW_k {w : mW} {k : Nat} (h2 : k ≠ 2) (h4 : k ≠ 4) (h5 : k ≠ 5) : ∀ (n : Nat) (i : Int), nnW w n k i = w k i
  | 0, _ => rfl
  | n + 1, i => by simp only [nnW]; rw [mset_k h5, mset_k h4, mset_k h2, nnW_k h2 h4 h5 n i]
theorem nnW_n {w : mW} {k : Nat} (hk : k = 2 ∨ k = 4 ∨ k = 5) : ∀ {n : Nat} {i : Int}, 0 ≤ i → i < n → nnW w n k i = -1
  | 0, i, h0, h1 => by omega
  | n + 1, i, h0, h1 => by
    simp only [nnW]
    by_cases e : i = n
    · subst e
      rcases hk with rfl | rfl | rfl
      · rw [mset_k (by decide), mset_k (by decide), mset_s]
      · rw [mset_k (by decide), mset_s]
      · rw [mset_s]
    · have := nnW_n hk (w := w) (n := n) h0 (by omega)
      rcases hk with rfl | rfl | rfl
      · rw [mset_k (by decide), mset_k (by decide), mset_i e]; exact this
      · rw [mset_k (by decide), mset_i e, mset_k (by decide)]; exact this
      · rw [mset_i e, mset_k (by decide), mset_k (by decide)]; exact this
theorem skW_k {w : mW} {k : Nat} (h : k ≠ 32) : ∀ (n : Nat) (i : Int), skW w n k i = w k i
  | 0, _ => rfl
  | n + 1, i => by simp only [skW]; rw [mset_k h, skW_k h n i]
theorem skW_n {w : mW} : ∀ {n : Nat} {i : Int}, 0 ≤ i → i < n → skW w n 32 i = 4
  | 0, i, h0, h1 => by omega
  | n + 1, i, h0, h1 => by
    simp only [skW]
    by_cases e : i = n
    · subst e; rw [mset_s]
    · rw [mset_i e]; exact skW_n h0 (by omega)
theorem iniW_o {k : Nat} (h : k ≠ 0 ∧ k ≠ 1 ∧ k ≠ 2 ∧ k ≠ 4 ∧ k ≠ 5 ∧ k ≠ 32 ∧ k ≠ 34) (i : Int) : iniW k i = 0 := by
  unfold iniW m01
  rw [skW_k h.2.2.2.2.2.1, mset_k h.2.1, nnW_k h.2.2.1 h.2.2.2.1 h.2.2.2.2.1, mset_k h.2.2.2.2.2.2, mset_k h.1]; rfl
theorem iniW_0 : iniW 0 0 = 9 := by unfold iniW m01; rw [skW_k (by decide), mset_k (by decide), nnW_k (by decide) (by decide) (by decide), mset_k (by decide), mset_s]
theorem iniW_34 : iniW 34 0 = 8 := by unfold iniW m01; rw [skW_k (by decide), mset_k (by decide), nnW_k (by decide) (by decide) (by decide), mset_s]
theorem iniW_1 (i : Int) : iniW 1 i = if i = 8 then 1 else 0 := by
  unfold iniW m01
  rw [skW_k (by decide)]
  by_cases e : i = 8
  · subst e; rw [mset_s, if_pos rfl]
  · rw [mset_i e, nnW_k (by decide) (by decide) (by decide), mset_k (by decide), mset_k (by decide), if_neg e]; rfl
theorem iniW_n {k : Nat} (hk : k = 2 ∨ k = 4 ∨ k = 5) {i : Int} (h0 : 0 ≤ i) (h1 : i < 60) : iniW k i = -1 := by
  unfold iniW
  rw [skW_k (by omega), mset_k (by omega)]
  exact nnW_n hk h0 h1
theorem iniW_32 {i : Int} (h0 : 0 ≤ i) (h1 : i < 8) : iniW 32 i = 4 := by unfold iniW; exact skW_n h0 h1
theorem ini_mB : mB iniW := by unfold mB; rw [iniW_0, iniW_o (k := 11) (by decide), iniW_o (k := 27) (by decide)]; decide
theorem ini_mBT : mBT iniW := by
  intro t h0 h1
  rw [iniW_0] at h1
  unfold clT
  rw [iniW_n (Or.inl rfl) h0 (by omega), iniW_n (Or.inr (Or.inl rfl)) h0 (by omega), iniW_o (k := 6) (by decide), iniW_1]
  refine ⟨by omega, fun h h8 => ?_, by omega, fun j h2 h3 => by omega, by omega, ?_⟩
  · rw [if_neg h8] at h; simp at h
  · split <;> omega
theorem iniW_wf : mWF iniW := skW_wf ((nnW_wf m01_wf 60).set ⟨by decide, by decide⟩ rfl) 8

set_option maxRecDepth 100000 in
theorem k7_init {l : Launch} {θ : zTh} {N : zMap} {am : Nat} : ZM θ l yX7_init cX7_init 2 none ⟨4, 35, 19560, 94⟩ [.ref am] (zP θ (mMpP θ am (fun _ => 0) m00 []) N) (fun v Q => v = none ∧ ∃ ar w', Q = mP θ am ar w' N ∧ mDis am ar ∧ mWF w' ∧ sBase iniW w' 9) := by
  refine z_start (own := RX7) (nm := "<init>") pnX7 rfl rfl (Nat.le_of_ble_eq_true rfl) ?_
  intro κ hκ hκl C
  change Z κ (zP θ (mMpP θ am (fun _ => 0) m00 []) N) 0 0 0 [(0, .ref am)] []
  refine z_aload_n C 1 0 dX7_init_0 rfl rfl ?_
  refine z_objInit C 4 dX7_init_1 q1974 q145 q146 (Nat.le_of_ble_eq_true rfl) (Nat.le_of_ble_eq_true rfl) rfl ?_
  refine z_aload_n C 5 0 dX7_init_4 rfl rfl ?_
  refine z_bipush C 7 dX7_init_5 (by decide) rfl ?_
  refine z_putf C hκ 10 0 zk_X7 mMpP_o (by decide) q1995 (Or.inl rfl) rfl rfl rfl (by simp [mObP]) rfl dX7_init_7 rfl ?_
  refine z_as (Pic' := zP θ (mMpP θ am (fun _ => 0) (mset m00 0 0 9) []) N) (congrArg (fun M => zP θ M N) (m_stepi (by decide) (by decide) (by decide))) rfl rfl ?_
  refine z_aload_n C 11 0 dX7_init_10 rfl rfl ?_
  refine z_bipush C 13 dX7_init_11 (by decide) rfl ?_
  refine z_newa_i (X := 60) (f := fun i => iI ((mset m00 0 0 9) 1 (i : Int))) C hκ 15 60 rfl (by decide) (fun j => congrArg (fun z => Value.int (iI z)) (mset_k (by decide) : (mset m00 0 0 9) 1 (j : Int) = 0)) q741 (Nat.le_of_ble_eq_true rfl) (Nat.le_of_ble_eq_true rfl) dX7_init_13 rfl (fun a1 a1h a1n => ?_)
  refine z_putF C hκ 18 1 zk_X7 ((zup_n (fun z => (mMpP_none a1h).1 z.symm)).trans mMpP_o) (by decide) q1996 (Or.inl rfl) rfl rfl rfl rfl (by simp [mObP]) rfl dX7_init_15 rfl ?_
  obtain ⟨ar1, hD1, e1⟩ : ∃ ar', mDisP am ar' [1] ∧ zup (zup (mMpP θ am (fun _ => 0) (mset m00 0 0 9) []) a1 (mArr θ (mset m00 0 0 9) 1)) am (.inr (7, (mObP [] (fun _ => 0) (mset m00 0 0 9)).set 1 (.ref a1))) = mMpP θ am ar' (mset m00 0 0 9) [1] := m_step (⟨fun i h => absurd h (by simp), fun i h => absurd h (by simp)⟩ : mDisP am (fun _ => 0) []) (by decide) (by decide) a1h
  refine z_as (Pic' := zP θ (mMpP θ am ar1 (mset m00 0 0 9) [1]) N) (congrArg (fun M => zP θ M N) e1) rfl rfl ?_
  refine z_aload_n C 19 0 dX7_init_18 rfl rfl ?_
  refine z_bipush C 21 dX7_init_19 (by decide) rfl ?_
  refine z_newa_i (X := 60) (f := fun i => iI ((mset m00 0 0 9) 2 (i : Int))) C hκ 23 60 rfl (by decide) (fun j => congrArg (fun z => Value.int (iI z)) (mset_k (by decide) : (mset m00 0 0 9) 2 (j : Int) = 0)) q741 (Nat.le_of_ble_eq_true rfl) (Nat.le_of_ble_eq_true rfl) dX7_init_21 rfl (fun a2 a2h a2n => ?_)
  refine z_putF C hκ 26 2 zk_X7 ((zup_n (fun z => (mMpP_none a2h).1 z.symm)).trans mMpP_o) (by decide) q1997 (Or.inl rfl) rfl rfl rfl rfl (by simp [mObP]) rfl dX7_init_23 rfl ?_
  obtain ⟨ar2, hD2, e2⟩ : ∃ ar', mDisP am ar' [1, 2] ∧ zup (zup (mMpP θ am ar1 (mset m00 0 0 9) [1]) a2 (mArr θ (mset m00 0 0 9) 2)) am (.inr (7, (mObP [1] ar1 (mset m00 0 0 9)).set 2 (.ref a2))) = mMpP θ am ar' (mset m00 0 0 9) [1, 2] := m_step hD1 (by decide) (by decide) a2h
  refine z_as (Pic' := zP θ (mMpP θ am ar2 (mset m00 0 0 9) [1, 2]) N) (congrArg (fun M => zP θ M N) e2) rfl rfl ?_
  refine z_aload_n C 27 0 dX7_init_26 rfl rfl ?_
  refine z_bipush C 29 dX7_init_27 (by decide) rfl ?_
  refine z_newa_i (X := 60) (f := fun i => iI ((mset m00 0 0 9) 3 (i : Int))) C hκ 31 60 rfl (by decide) (fun j => congrArg (fun z => Value.int (iI z)) (mset_k (by decide) : (mset m00 0 0 9) 3 (j : Int) = 0)) q741 (Nat.le_of_ble_eq_true rfl) (Nat.le_of_ble_eq_true rfl) dX7_init_29 rfl (fun a3 a3h a3n => ?_)
  refine z_putF C hκ 34 3 zk_X7 ((zup_n (fun z => (mMpP_none a3h).1 z.symm)).trans mMpP_o) (by decide) q1998 (Or.inl rfl) rfl rfl rfl rfl (by simp [mObP]) rfl dX7_init_31 rfl ?_
  obtain ⟨ar3, hD3, e3⟩ : ∃ ar', mDisP am ar' [1, 2, 3] ∧ zup (zup (mMpP θ am ar2 (mset m00 0 0 9) [1, 2]) a3 (mArr θ (mset m00 0 0 9) 3)) am (.inr (7, (mObP [1, 2] ar2 (mset m00 0 0 9)).set 3 (.ref a3))) = mMpP θ am ar' (mset m00 0 0 9) [1, 2, 3] := m_step hD2 (by decide) (by decide) a3h
  refine z_as (Pic' := zP θ (mMpP θ am ar3 (mset m00 0 0 9) [1, 2, 3]) N) (congrArg (fun M => zP θ M N) e3) rfl rfl ?_
  refine z_aload_n C 35 0 dX7_init_34 rfl rfl ?_
  refine z_bipush C 37 dX7_init_35 (by decide) rfl ?_
  refine z_newa_i (X := 60) (f := fun i => iI ((mset m00 0 0 9) 4 (i : Int))) C hκ 39 60 rfl (by decide) (fun j => congrArg (fun z => Value.int (iI z)) (mset_k (by decide) : (mset m00 0 0 9) 4 (j : Int) = 0)) q741 (Nat.le_of_ble_eq_true rfl) (Nat.le_of_ble_eq_true rfl) dX7_init_37 rfl (fun a4 a4h a4n => ?_)
  refine z_putF C hκ 42 4 zk_X7 ((zup_n (fun z => (mMpP_none a4h).1 z.symm)).trans mMpP_o) (by decide) q1999 (Or.inl rfl) rfl rfl rfl rfl (by simp [mObP]) rfl dX7_init_39 rfl ?_
  obtain ⟨ar4, hD4, e4⟩ : ∃ ar', mDisP am ar' [1, 2, 3, 4] ∧ zup (zup (mMpP θ am ar3 (mset m00 0 0 9) [1, 2, 3]) a4 (mArr θ (mset m00 0 0 9) 4)) am (.inr (7, (mObP [1, 2, 3] ar3 (mset m00 0 0 9)).set 4 (.ref a4))) = mMpP θ am ar' (mset m00 0 0 9) [1, 2, 3, 4] := m_step hD3 (by decide) (by decide) a4h
  refine z_as (Pic' := zP θ (mMpP θ am ar4 (mset m00 0 0 9) [1, 2, 3, 4]) N) (congrArg (fun M => zP θ M N) e4) rfl rfl ?_
  refine z_aload_n C 43 0 dX7_init_42 rfl rfl ?_
  refine z_bipush C 45 dX7_init_43 (by decide) rfl ?_
  refine z_newa_i (X := 60) (f := fun i => iI ((mset m00 0 0 9) 5 (i : Int))) C hκ 47 60 rfl (by decide) (fun j => congrArg (fun z => Value.int (iI z)) (mset_k (by decide) : (mset m00 0 0 9) 5 (j : Int) = 0)) q741 (Nat.le_of_ble_eq_true rfl) (Nat.le_of_ble_eq_true rfl) dX7_init_45 rfl (fun a5 a5h a5n => ?_)
  refine z_putF C hκ 50 5 zk_X7 ((zup_n (fun z => (mMpP_none a5h).1 z.symm)).trans mMpP_o) (by decide) q2000 (Or.inl rfl) rfl rfl rfl rfl (by simp [mObP]) rfl dX7_init_47 rfl ?_
  obtain ⟨ar5, hD5, e5⟩ : ∃ ar', mDisP am ar' [1, 2, 3, 4, 5] ∧ zup (zup (mMpP θ am ar4 (mset m00 0 0 9) [1, 2, 3, 4]) a5 (mArr θ (mset m00 0 0 9) 5)) am (.inr (7, (mObP [1, 2, 3, 4] ar4 (mset m00 0 0 9)).set 5 (.ref a5))) = mMpP θ am ar' (mset m00 0 0 9) [1, 2, 3, 4, 5] := m_step hD4 (by decide) (by decide) a5h
  refine z_as (Pic' := zP θ (mMpP θ am ar5 (mset m00 0 0 9) [1, 2, 3, 4, 5]) N) (congrArg (fun M => zP θ M N) e5) rfl rfl ?_
  refine z_aload_n C 51 0 dX7_init_50 rfl rfl ?_
  refine z_bipush C 53 dX7_init_51 (by decide) rfl ?_
  refine z_newa_i (X := 60) (f := fun i => iI ((mset m00 0 0 9) 6 (i : Int))) C hκ 55 60 rfl (by decide) (fun j => congrArg (fun z => Value.int (iI z)) (mset_k (by decide) : (mset m00 0 0 9) 6 (j : Int) = 0)) q741 (Nat.le_of_ble_eq_true rfl) (Nat.le_of_ble_eq_true rfl) dX7_init_53 rfl (fun a6 a6h a6n => ?_)
  refine z_putF C hκ 58 6 zk_X7 ((zup_n (fun z => (mMpP_none a6h).1 z.symm)).trans mMpP_o) (by decide) q2001 (Or.inl rfl) rfl rfl rfl rfl (by simp [mObP]) rfl dX7_init_55 rfl ?_
  obtain ⟨ar6, hD6, e6⟩ : ∃ ar', mDisP am ar' [1, 2, 3, 4, 5, 6] ∧ zup (zup (mMpP θ am ar5 (mset m00 0 0 9) [1, 2, 3, 4, 5]) a6 (mArr θ (mset m00 0 0 9) 6)) am (.inr (7, (mObP [1, 2, 3, 4, 5] ar5 (mset m00 0 0 9)).set 6 (.ref a6))) = mMpP θ am ar' (mset m00 0 0 9) [1, 2, 3, 4, 5, 6] := m_step hD5 (by decide) (by decide) a6h
  refine z_as (Pic' := zP θ (mMpP θ am ar6 (mset m00 0 0 9) [1, 2, 3, 4, 5, 6]) N) (congrArg (fun M => zP θ M N) e6) rfl rfl ?_
  refine z_aload_n C 59 0 dX7_init_58 rfl rfl ?_
  refine z_sipush C 62 dX7_init_59 (by decide) rfl ?_
  refine z_newa_i (X := 180) (f := fun i => iI ((mset m00 0 0 9) 7 (i : Int))) C hκ 64 180 rfl (by decide) (fun j => congrArg (fun z => Value.int (iI z)) (mset_k (by decide) : (mset m00 0 0 9) 7 (j : Int) = 0)) q741 (Nat.le_of_ble_eq_true rfl) (Nat.le_of_ble_eq_true rfl) dX7_init_62 rfl (fun a7 a7h a7n => ?_)
  refine z_putF C hκ 67 7 zk_X7 ((zup_n (fun z => (mMpP_none a7h).1 z.symm)).trans mMpP_o) (by decide) q2002 (Or.inl rfl) rfl rfl rfl rfl (by simp [mObP]) rfl dX7_init_64 rfl ?_
  obtain ⟨ar7, hD7, e7⟩ : ∃ ar', mDisP am ar' [1, 2, 3, 4, 5, 6, 7] ∧ zup (zup (mMpP θ am ar6 (mset m00 0 0 9) [1, 2, 3, 4, 5, 6]) a7 (mArr θ (mset m00 0 0 9) 7)) am (.inr (7, (mObP [1, 2, 3, 4, 5, 6] ar6 (mset m00 0 0 9)).set 7 (.ref a7))) = mMpP θ am ar' (mset m00 0 0 9) [1, 2, 3, 4, 5, 6, 7] := m_step hD6 (by decide) (by decide) a7h
  refine z_as (Pic' := zP θ (mMpP θ am ar7 (mset m00 0 0 9) [1, 2, 3, 4, 5, 6, 7]) N) (congrArg (fun M => zP θ M N) e7) rfl rfl ?_
  refine z_aload_n C 68 0 dX7_init_67 rfl rfl ?_
  refine z_sipush C 71 dX7_init_68 (by decide) rfl ?_
  refine z_newa_z (X := 3600) (f := fun i => iI ((mset m00 0 0 9) 8 (i : Int))) C hκ 73 3600 rfl (by decide) (fun j => congrArg (fun z => Value.int (iI z)) (mset_k (by decide) : (mset m00 0 0 9) 8 (j : Int) = 0)) q216 (Nat.le_of_ble_eq_true rfl) (Nat.le_of_ble_eq_true rfl) dX7_init_71 rfl (fun a8 a8h a8n => ?_)
  refine z_putF C hκ 76 8 zk_X7 ((zup_n (fun z => (mMpP_none a8h).1 z.symm)).trans mMpP_o) (by decide) q2003 (Or.inl rfl) rfl rfl rfl rfl (by simp [mObP]) rfl dX7_init_73 rfl ?_
  obtain ⟨ar8, hD8, e8⟩ : ∃ ar', mDisP am ar' [1, 2, 3, 4, 5, 6, 7, 8] ∧ zup (zup (mMpP θ am ar7 (mset m00 0 0 9) [1, 2, 3, 4, 5, 6, 7]) a8 (mArr θ (mset m00 0 0 9) 8)) am (.inr (7, (mObP [1, 2, 3, 4, 5, 6, 7] ar7 (mset m00 0 0 9)).set 8 (.ref a8))) = mMpP θ am ar' (mset m00 0 0 9) [1, 2, 3, 4, 5, 6, 7, 8] := m_step hD7 (by decide) (by decide) a8h
  refine z_as (Pic' := zP θ (mMpP θ am ar8 (mset m00 0 0 9) [1, 2, 3, 4, 5, 6, 7, 8]) N) (congrArg (fun M => zP θ M N) e8) rfl rfl ?_
  refine z_aload_n C 77 0 dX7_init_76 rfl rfl ?_
  refine z_sipush C 80 dX7_init_77 (by decide) rfl ?_
  refine z_newa_i (X := 3600) (f := fun i => iI ((mset m00 0 0 9) 9 (i : Int))) C hκ 82 3600 rfl (by decide) (fun j => congrArg (fun z => Value.int (iI z)) (mset_k (by decide) : (mset m00 0 0 9) 9 (j : Int) = 0)) q741 (Nat.le_of_ble_eq_true rfl) (Nat.le_of_ble_eq_true rfl) dX7_init_80 rfl (fun a9 a9h a9n => ?_)
  refine z_putF C hκ 85 9 zk_X7 ((zup_n (fun z => (mMpP_none a9h).1 z.symm)).trans mMpP_o) (by decide) q2004 (Or.inl rfl) rfl rfl rfl rfl (by simp [mObP]) rfl dX7_init_82 rfl ?_
  obtain ⟨ar9, hD9, e9⟩ : ∃ ar', mDisP am ar' [1, 2, 3, 4, 5, 6, 7, 8, 9] ∧ zup (zup (mMpP θ am ar8 (mset m00 0 0 9) [1, 2, 3, 4, 5, 6, 7, 8]) a9 (mArr θ (mset m00 0 0 9) 9)) am (.inr (7, (mObP [1, 2, 3, 4, 5, 6, 7, 8] ar8 (mset m00 0 0 9)).set 9 (.ref a9))) = mMpP θ am ar' (mset m00 0 0 9) [1, 2, 3, 4, 5, 6, 7, 8, 9] := m_step hD8 (by decide) (by decide) a9h
  refine z_as (Pic' := zP θ (mMpP θ am ar9 (mset m00 0 0 9) [1, 2, 3, 4, 5, 6, 7, 8, 9]) N) (congrArg (fun M => zP θ M N) e9) rfl rfl ?_
  refine z_aload_n C 86 0 dX7_init_85 rfl rfl ?_
  refine z_bipush C 88 dX7_init_86 (by decide) rfl ?_
  refine z_newa_i (X := 60) (f := fun i => iI ((mset m00 0 0 9) 10 (i : Int))) C hκ 90 60 rfl (by decide) (fun j => congrArg (fun z => Value.int (iI z)) (mset_k (by decide) : (mset m00 0 0 9) 10 (j : Int) = 0)) q741 (Nat.le_of_ble_eq_true rfl) (Nat.le_of_ble_eq_true rfl) dX7_init_88 rfl (fun a10 a10h a10n => ?_)
  refine z_putF C hκ 93 10 zk_X7 ((zup_n (fun z => (mMpP_none a10h).1 z.symm)).trans mMpP_o) (by decide) q2005 (Or.inl rfl) rfl rfl rfl rfl (by simp [mObP]) rfl dX7_init_90 rfl ?_
  obtain ⟨ar10, hD10, e10⟩ : ∃ ar', mDisP am ar' [1, 2, 3, 4, 5, 6, 7, 8, 9, 10] ∧ zup (zup (mMpP θ am ar9 (mset m00 0 0 9) [1, 2, 3, 4, 5, 6, 7, 8, 9]) a10 (mArr θ (mset m00 0 0 9) 10)) am (.inr (7, (mObP [1, 2, 3, 4, 5, 6, 7, 8, 9] ar9 (mset m00 0 0 9)).set 10 (.ref a10))) = mMpP θ am ar' (mset m00 0 0 9) [1, 2, 3, 4, 5, 6, 7, 8, 9, 10] := m_step hD9 (by decide) (by decide) a10h
  refine z_as (Pic' := zP θ (mMpP θ am ar10 (mset m00 0 0 9) [1, 2, 3, 4, 5, 6, 7, 8, 9, 10]) N) (congrArg (fun M => zP θ M N) e10) rfl rfl ?_
  refine z_aload_n C 94 0 dX7_init_93 rfl rfl ?_
  refine z_bipush C 96 dX7_init_94 (by decide) rfl ?_
  refine z_newa_i (X := 100) (f := fun i => iI ((mset m00 0 0 9) 13 (i : Int))) C hκ 98 100 rfl (by decide) (fun j => congrArg (fun z => Value.int (iI z)) (mset_k (by decide) : (mset m00 0 0 9) 13 (j : Int) = 0)) q741 (Nat.le_of_ble_eq_true rfl) (Nat.le_of_ble_eq_true rfl) dX7_init_96 rfl (fun a11 a11h a11n => ?_)
  refine z_putF C hκ 101 13 zk_X7 ((zup_n (fun z => (mMpP_none a11h).1 z.symm)).trans mMpP_o) (by decide) q2008 (Or.inl rfl) rfl rfl rfl rfl (by simp [mObP]) rfl dX7_init_98 rfl ?_
  obtain ⟨ar13, hD13, e13⟩ : ∃ ar', mDisP am ar' [1, 2, 3, 4, 5, 6, 7, 8, 9, 10, 13] ∧ zup (zup (mMpP θ am ar10 (mset m00 0 0 9) [1, 2, 3, 4, 5, 6, 7, 8, 9, 10]) a11 (mArr θ (mset m00 0 0 9) 13)) am (.inr (7, (mObP [1, 2, 3, 4, 5, 6, 7, 8, 9, 10] ar10 (mset m00 0 0 9)).set 13 (.ref a11))) = mMpP θ am ar' (mset m00 0 0 9) [1, 2, 3, 4, 5, 6, 7, 8, 9, 10, 13] := m_step hD10 (by decide) (by decide) a11h
  refine z_as (Pic' := zP θ (mMpP θ am ar13 (mset m00 0 0 9) [1, 2, 3, 4, 5, 6, 7, 8, 9, 10, 13]) N) (congrArg (fun M => zP θ M N) e13) rfl rfl ?_
  refine z_aload_n C 102 0 dX7_init_101 rfl rfl ?_
  refine z_bipush C 104 dX7_init_102 (by decide) rfl ?_
  refine z_newa_i (X := 100) (f := fun i => iI ((mset m00 0 0 9) 14 (i : Int))) C hκ 106 100 rfl (by decide) (fun j => congrArg (fun z => Value.int (iI z)) (mset_k (by decide) : (mset m00 0 0 9) 14 (j : Int) = 0)) q741 (Nat.le_of_ble_eq_true rfl) (Nat.le_of_ble_eq_true rfl) dX7_init_104 rfl (fun a12 a12h a12n => ?_)
  refine z_putF C hκ 109 14 zk_X7 ((zup_n (fun z => (mMpP_none a12h).1 z.symm)).trans mMpP_o) (by decide) q2009 (Or.inl rfl) rfl rfl rfl rfl (by simp [mObP]) rfl dX7_init_106 rfl ?_
  obtain ⟨ar14, hD14, e14⟩ : ∃ ar', mDisP am ar' [1, 2, 3, 4, 5, 6, 7, 8, 9, 10, 13, 14] ∧ zup (zup (mMpP θ am ar13 (mset m00 0 0 9) [1, 2, 3, 4, 5, 6, 7, 8, 9, 10, 13]) a12 (mArr θ (mset m00 0 0 9) 14)) am (.inr (7, (mObP [1, 2, 3, 4, 5, 6, 7, 8, 9, 10, 13] ar13 (mset m00 0 0 9)).set 14 (.ref a12))) = mMpP θ am ar' (mset m00 0 0 9) [1, 2, 3, 4, 5, 6, 7, 8, 9, 10, 13, 14] := m_step hD13 (by decide) (by decide) a12h
  refine z_as (Pic' := zP θ (mMpP θ am ar14 (mset m00 0 0 9) [1, 2, 3, 4, 5, 6, 7, 8, 9, 10, 13, 14]) N) (congrArg (fun M => zP θ M N) e14) rfl rfl ?_
  refine z_aload_n C 110 0 dX7_init_109 rfl rfl ?_
  refine z_bipush C 112 dX7_init_110 (by decide) rfl ?_
  refine z_newa_i (X := 100) (f := fun i => iI ((mset m00 0 0 9) 15 (i : Int))) C hκ 114 100 rfl (by decide) (fun j => congrArg (fun z => Value.int (iI z)) (mset_k (by decide) : (mset m00 0 0 9) 15 (j : Int) = 0)) q741 (Nat.le_of_ble_eq_true rfl) (Nat.le_of_ble_eq_true rfl) dX7_init_112 rfl (fun a13 a13h a13n => ?_)
  refine z_putF C hκ 117 15 zk_X7 ((zup_n (fun z => (mMpP_none a13h).1 z.symm)).trans mMpP_o) (by decide) q2010 (Or.inl rfl) rfl rfl rfl rfl (by simp [mObP]) rfl dX7_init_114 rfl ?_
  obtain ⟨ar15, hD15, e15⟩ : ∃ ar', mDisP am ar' [1, 2, 3, 4, 5, 6, 7, 8, 9, 10, 13, 14, 15] ∧ zup (zup (mMpP θ am ar14 (mset m00 0 0 9) [1, 2, 3, 4, 5, 6, 7, 8, 9, 10, 13, 14]) a13 (mArr θ (mset m00 0 0 9) 15)) am (.inr (7, (mObP [1, 2, 3, 4, 5, 6, 7, 8, 9, 10, 13, 14] ar14 (mset m00 0 0 9)).set 15 (.ref a13))) = mMpP θ am ar' (mset m00 0 0 9) [1, 2, 3, 4, 5, 6, 7, 8, 9, 10, 13, 14, 15] := m_step hD14 (by decide) (by decide) a13h
  refine z_as (Pic' := zP θ (mMpP θ am ar15 (mset m00 0 0 9) [1, 2, 3, 4, 5, 6, 7, 8, 9, 10, 13, 14, 15]) N) (congrArg (fun M => zP θ M N) e15) rfl rfl ?_
  refine z_aload_n C 118 0 dX7_init_117 rfl rfl ?_
  refine z_bipush C 120 dX7_init_118 (by decide) rfl ?_
  refine z_newa_z (X := 100) (f := fun i => iI ((mset m00 0 0 9) 16 (i : Int))) C hκ 122 100 rfl (by decide) (fun j => congrArg (fun z => Value.int (iI z)) (mset_k (by decide) : (mset m00 0 0 9) 16 (j : Int) = 0)) q216 (Nat.le_of_ble_eq_true rfl) (Nat.le_of_ble_eq_true rfl) dX7_init_120 rfl (fun a14 a14h a14n => ?_)
  refine z_putF C hκ 125 16 zk_X7 ((zup_n (fun z => (mMpP_none a14h).1 z.symm)).trans mMpP_o) (by decide) q2011 (Or.inl rfl) rfl rfl rfl rfl (by simp [mObP]) rfl dX7_init_122 rfl ?_
  obtain ⟨ar16, hD16, e16⟩ : ∃ ar', mDisP am ar' [1, 2, 3, 4, 5, 6, 7, 8, 9, 10, 13, 14, 15, 16] ∧ zup (zup (mMpP θ am ar15 (mset m00 0 0 9) [1, 2, 3, 4, 5, 6, 7, 8, 9, 10, 13, 14, 15]) a14 (mArr θ (mset m00 0 0 9) 16)) am (.inr (7, (mObP [1, 2, 3, 4, 5, 6, 7, 8, 9, 10, 13, 14, 15] ar15 (mset m00 0 0 9)).set 16 (.ref a14))) = mMpP θ am ar' (mset m00 0 0 9) [1, 2, 3, 4, 5, 6, 7, 8, 9, 10, 13, 14, 15, 16] := m_step hD15 (by decide) (by decide) a14h
  refine z_as (Pic' := zP θ (mMpP θ am ar16 (mset m00 0 0 9) [1, 2, 3, 4, 5, 6, 7, 8, 9, 10, 13, 14, 15, 16]) N) (congrArg (fun M => zP θ M N) e16) rfl rfl ?_
  refine z_aload_n C 126 0 dX7_init_125 rfl rfl ?_
  refine z_bipush C 128 dX7_init_126 (by decide) rfl ?_
  refine z_newa_i (X := 100) (f := fun i => iI ((mset m00 0 0 9) 17 (i : Int))) C hκ 130 100 rfl (by decide) (fun j => congrArg (fun z => Value.int (iI z)) (mset_k (by decide) : (mset m00 0 0 9) 17 (j : Int) = 0)) q741 (Nat.le_of_ble_eq_true rfl) (Nat.le_of_ble_eq_true rfl) dX7_init_128 rfl (fun a15 a15h a15n => ?_)
  refine z_putF C hκ 133 17 zk_X7 ((zup_n (fun z => (mMpP_none a15h).1 z.symm)).trans mMpP_o) (by decide) q2012 (Or.inl rfl) rfl rfl rfl rfl (by simp [mObP]) rfl dX7_init_130 rfl ?_
  obtain ⟨ar17, hD17, e17⟩ : ∃ ar', mDisP am ar' [1, 2, 3, 4, 5, 6, 7, 8, 9, 10, 13, 14, 15, 16, 17] ∧ zup (zup (mMpP θ am ar16 (mset m00 0 0 9) [1, 2, 3, 4, 5, 6, 7, 8, 9, 10, 13, 14, 15, 16]) a15 (mArr θ (mset m00 0 0 9) 17)) am (.inr (7, (mObP [1, 2, 3, 4, 5, 6, 7, 8, 9, 10, 13, 14, 15, 16] ar16 (mset m00 0 0 9)).set 17 (.ref a15))) = mMpP θ am ar' (mset m00 0 0 9) [1, 2, 3, 4, 5, 6, 7, 8, 9, 10, 13, 14, 15, 16, 17] := m_step hD16 (by decide) (by decide) a15h
  refine z_as (Pic' := zP θ (mMpP θ am ar17 (mset m00 0 0 9) [1, 2, 3, 4, 5, 6, 7, 8, 9, 10, 13, 14, 15, 16, 17]) N) (congrArg (fun M => zP θ M N) e17) rfl rfl ?_
  refine z_aload_n C 134 0 dX7_init_133 rfl rfl ?_
  refine z_bipush C 136 dX7_init_134 (by decide) rfl ?_
  refine z_newa_i (X := 100) (f := fun i => iI ((mset m00 0 0 9) 18 (i : Int))) C hκ 138 100 rfl (by decide) (fun j => congrArg (fun z => Value.int (iI z)) (mset_k (by decide) : (mset m00 0 0 9) 18 (j : Int) = 0)) q741 (Nat.le_of_ble_eq_true rfl) (Nat.le_of_ble_eq_true rfl) dX7_init_136 rfl (fun a16 a16h a16n => ?_)
  refine z_putF C hκ 141 18 zk_X7 ((zup_n (fun z => (mMpP_none a16h).1 z.symm)).trans mMpP_o) (by decide) q2013 (Or.inl rfl) rfl rfl rfl rfl (by simp [mObP]) rfl dX7_init_138 rfl ?_
  obtain ⟨ar18, hD18, e18⟩ : ∃ ar', mDisP am ar' [1, 2, 3, 4, 5, 6, 7, 8, 9, 10, 13, 14, 15, 16, 17, 18] ∧ zup (zup (mMpP θ am ar17 (mset m00 0 0 9) [1, 2, 3, 4, 5, 6, 7, 8, 9, 10, 13, 14, 15, 16, 17]) a16 (mArr θ (mset m00 0 0 9) 18)) am (.inr (7, (mObP [1, 2, 3, 4, 5, 6, 7, 8, 9, 10, 13, 14, 15, 16, 17] ar17 (mset m00 0 0 9)).set 18 (.ref a16))) = mMpP θ am ar' (mset m00 0 0 9) [1, 2, 3, 4, 5, 6, 7, 8, 9, 10, 13, 14, 15, 16, 17, 18] := m_step hD17 (by decide) (by decide) a16h
  refine z_as (Pic' := zP θ (mMpP θ am ar18 (mset m00 0 0 9) [1, 2, 3, 4, 5, 6, 7, 8, 9, 10, 13, 14, 15, 16, 17, 18]) N) (congrArg (fun M => zP θ M N) e18) rfl rfl ?_
  refine z_aload_n C 142 0 dX7_init_141 rfl rfl ?_
  refine z_sipush C 145 dX7_init_142 (by decide) rfl ?_
  refine z_newa_i (X := 300) (f := fun i => iI ((mset m00 0 0 9) 19 (i : Int))) C hκ 147 300 rfl (by decide) (fun j => congrArg (fun z => Value.int (iI z)) (mset_k (by decide) : (mset m00 0 0 9) 19 (j : Int) = 0)) q741 (Nat.le_of_ble_eq_true rfl) (Nat.le_of_ble_eq_true rfl) dX7_init_145 rfl (fun a17 a17h a17n => ?_)
  refine z_putF C hκ 150 19 zk_X7 ((zup_n (fun z => (mMpP_none a17h).1 z.symm)).trans mMpP_o) (by decide) q2014 (Or.inl rfl) rfl rfl rfl rfl (by simp [mObP]) rfl dX7_init_147 rfl ?_
  obtain ⟨ar19, hD19, e19⟩ : ∃ ar', mDisP am ar' [1, 2, 3, 4, 5, 6, 7, 8, 9, 10, 13, 14, 15, 16, 17, 18, 19] ∧ zup (zup (mMpP θ am ar18 (mset m00 0 0 9) [1, 2, 3, 4, 5, 6, 7, 8, 9, 10, 13, 14, 15, 16, 17, 18]) a17 (mArr θ (mset m00 0 0 9) 19)) am (.inr (7, (mObP [1, 2, 3, 4, 5, 6, 7, 8, 9, 10, 13, 14, 15, 16, 17, 18] ar18 (mset m00 0 0 9)).set 19 (.ref a17))) = mMpP θ am ar' (mset m00 0 0 9) [1, 2, 3, 4, 5, 6, 7, 8, 9, 10, 13, 14, 15, 16, 17, 18, 19] := m_step hD18 (by decide) (by decide) a17h
  refine z_as (Pic' := zP θ (mMpP θ am ar19 (mset m00 0 0 9) [1, 2, 3, 4, 5, 6, 7, 8, 9, 10, 13, 14, 15, 16, 17, 18, 19]) N) (congrArg (fun M => zP θ M N) e19) rfl rfl ?_
  refine z_aload_n C 151 0 dX7_init_150 rfl rfl ?_
  refine z_bipush C 153 dX7_init_151 (by decide) rfl ?_
  refine z_newa_z (X := 100) (f := fun i => iI ((mset m00 0 0 9) 20 (i : Int))) C hκ 155 100 rfl (by decide) (fun j => congrArg (fun z => Value.int (iI z)) (mset_k (by decide) : (mset m00 0 0 9) 20 (j : Int) = 0)) q216 (Nat.le_of_ble_eq_true rfl) (Nat.le_of_ble_eq_true rfl) dX7_init_153 rfl (fun a18 a18h a18n => ?_)
  refine z_putF C hκ 158 20 zk_X7 ((zup_n (fun z => (mMpP_none a18h).1 z.symm)).trans mMpP_o) (by decide) q2015 (Or.inl rfl) rfl rfl rfl rfl (by simp [mObP]) rfl dX7_init_155 rfl ?_
  obtain ⟨ar20, hD20, e20⟩ : ∃ ar', mDisP am ar' [1, 2, 3, 4, 5, 6, 7, 8, 9, 10, 13, 14, 15, 16, 17, 18, 19, 20] ∧ zup (zup (mMpP θ am ar19 (mset m00 0 0 9) [1, 2, 3, 4, 5, 6, 7, 8, 9, 10, 13, 14, 15, 16, 17, 18, 19]) a18 (mArr θ (mset m00 0 0 9) 20)) am (.inr (7, (mObP [1, 2, 3, 4, 5, 6, 7, 8, 9, 10, 13, 14, 15, 16, 17, 18, 19] ar19 (mset m00 0 0 9)).set 20 (.ref a18))) = mMpP θ am ar' (mset m00 0 0 9) [1, 2, 3, 4, 5, 6, 7, 8, 9, 10, 13, 14, 15, 16, 17, 18, 19, 20] := m_step hD19 (by decide) (by decide) a18h
  refine z_as (Pic' := zP θ (mMpP θ am ar20 (mset m00 0 0 9) [1, 2, 3, 4, 5, 6, 7, 8, 9, 10, 13, 14, 15, 16, 17, 18, 19, 20]) N) (congrArg (fun M => zP θ M N) e20) rfl rfl ?_
  refine z_aload_n C 159 0 dX7_init_158 rfl rfl ?_
  refine z_bipush C 161 dX7_init_159 (by decide) rfl ?_
  refine z_newa_z (X := 100) (f := fun i => iI ((mset m00 0 0 9) 21 (i : Int))) C hκ 163 100 rfl (by decide) (fun j => congrArg (fun z => Value.int (iI z)) (mset_k (by decide) : (mset m00 0 0 9) 21 (j : Int) = 0)) q216 (Nat.le_of_ble_eq_true rfl) (Nat.le_of_ble_eq_true rfl) dX7_init_161 rfl (fun a19 a19h a19n => ?_)
  refine z_putF C hκ 166 21 zk_X7 ((zup_n (fun z => (mMpP_none a19h).1 z.symm)).trans mMpP_o) (by decide) q2016 (Or.inl rfl) rfl rfl rfl rfl (by simp [mObP]) rfl dX7_init_163 rfl ?_
  obtain ⟨ar21, hD21, e21⟩ : ∃ ar', mDisP am ar' [1, 2, 3, 4, 5, 6, 7, 8, 9, 10, 13, 14, 15, 16, 17, 18, 19, 20, 21] ∧ zup (zup (mMpP θ am ar20 (mset m00 0 0 9) [1, 2, 3, 4, 5, 6, 7, 8, 9, 10, 13, 14, 15, 16, 17, 18, 19, 20]) a19 (mArr θ (mset m00 0 0 9) 21)) am (.inr (7, (mObP [1, 2, 3, 4, 5, 6, 7, 8, 9, 10, 13, 14, 15, 16, 17, 18, 19, 20] ar20 (mset m00 0 0 9)).set 21 (.ref a19))) = mMpP θ am ar' (mset m00 0 0 9) [1, 2, 3, 4, 5, 6, 7, 8, 9, 10, 13, 14, 15, 16, 17, 18, 19, 20, 21] := m_step hD20 (by decide) (by decide) a19h
  refine z_as (Pic' := zP θ (mMpP θ am ar21 (mset m00 0 0 9) [1, 2, 3, 4, 5, 6, 7, 8, 9, 10, 13, 14, 15, 16, 17, 18, 19, 20, 21]) N) (congrArg (fun M => zP θ M N) e21) rfl rfl ?_
  refine z_aload_n C 167 0 dX7_init_166 rfl rfl ?_
  refine z_bipush C 169 dX7_init_167 (by decide) rfl ?_
  refine z_newa_i (X := 100) (f := fun i => iI ((mset m00 0 0 9) 22 (i : Int))) C hκ 171 100 rfl (by decide) (fun j => congrArg (fun z => Value.int (iI z)) (mset_k (by decide) : (mset m00 0 0 9) 22 (j : Int) = 0)) q741 (Nat.le_of_ble_eq_true rfl) (Nat.le_of_ble_eq_true rfl) dX7_init_169 rfl (fun a20 a20h a20n => ?_)
  refine z_putF C hκ 174 22 zk_X7 ((zup_n (fun z => (mMpP_none a20h).1 z.symm)).trans mMpP_o) (by decide) q2017 (Or.inl rfl) rfl rfl rfl rfl (by simp [mObP]) rfl dX7_init_171 rfl ?_
  obtain ⟨ar22, hD22, e22⟩ : ∃ ar', mDisP am ar' [1, 2, 3, 4, 5, 6, 7, 8, 9, 10, 13, 14, 15, 16, 17, 18, 19, 20, 21, 22] ∧ zup (zup (mMpP θ am ar21 (mset m00 0 0 9) [1, 2, 3, 4, 5, 6, 7, 8, 9, 10, 13, 14, 15, 16, 17, 18, 19, 20, 21]) a20 (mArr θ (mset m00 0 0 9) 22)) am (.inr (7, (mObP [1, 2, 3, 4, 5, 6, 7, 8, 9, 10, 13, 14, 15, 16, 17, 18, 19, 20, 21] ar21 (mset m00 0 0 9)).set 22 (.ref a20))) = mMpP θ am ar' (mset m00 0 0 9) [1, 2, 3, 4, 5, 6, 7, 8, 9, 10, 13, 14, 15, 16, 17, 18, 19, 20, 21, 22] := m_step hD21 (by decide) (by decide) a20h
  refine z_as (Pic' := zP θ (mMpP θ am ar22 (mset m00 0 0 9) [1, 2, 3, 4, 5, 6, 7, 8, 9, 10, 13, 14, 15, 16, 17, 18, 19, 20, 21, 22]) N) (congrArg (fun M => zP θ M N) e22) rfl rfl ?_
  refine z_aload_n C 175 0 dX7_init_174 rfl rfl ?_
  refine z_bipush C 177 dX7_init_175 (by decide) rfl ?_
  refine z_newa_i (X := 100) (f := fun i => iI ((mset m00 0 0 9) 23 (i : Int))) C hκ 179 100 rfl (by decide) (fun j => congrArg (fun z => Value.int (iI z)) (mset_k (by decide) : (mset m00 0 0 9) 23 (j : Int) = 0)) q741 (Nat.le_of_ble_eq_true rfl) (Nat.le_of_ble_eq_true rfl) dX7_init_177 rfl (fun a21 a21h a21n => ?_)
  refine z_putF C hκ 182 23 zk_X7 ((zup_n (fun z => (mMpP_none a21h).1 z.symm)).trans mMpP_o) (by decide) q2018 (Or.inl rfl) rfl rfl rfl rfl (by simp [mObP]) rfl dX7_init_179 rfl ?_
  obtain ⟨ar23, hD23, e23⟩ : ∃ ar', mDisP am ar' [1, 2, 3, 4, 5, 6, 7, 8, 9, 10, 13, 14, 15, 16, 17, 18, 19, 20, 21, 22, 23] ∧ zup (zup (mMpP θ am ar22 (mset m00 0 0 9) [1, 2, 3, 4, 5, 6, 7, 8, 9, 10, 13, 14, 15, 16, 17, 18, 19, 20, 21, 22]) a21 (mArr θ (mset m00 0 0 9) 23)) am (.inr (7, (mObP [1, 2, 3, 4, 5, 6, 7, 8, 9, 10, 13, 14, 15, 16, 17, 18, 19, 20, 21, 22] ar22 (mset m00 0 0 9)).set 23 (.ref a21))) = mMpP θ am ar' (mset m00 0 0 9) [1, 2, 3, 4, 5, 6, 7, 8, 9, 10, 13, 14, 15, 16, 17, 18, 19, 20, 21, 22, 23] := m_step hD22 (by decide) (by decide) a21h
  refine z_as (Pic' := zP θ (mMpP θ am ar23 (mset m00 0 0 9) [1, 2, 3, 4, 5, 6, 7, 8, 9, 10, 13, 14, 15, 16, 17, 18, 19, 20, 21, 22, 23]) N) (congrArg (fun M => zP θ M N) e23) rfl rfl ?_
  refine z_aload_n C 183 0 dX7_init_182 rfl rfl ?_
  refine z_bipush C 185 dX7_init_183 (by decide) rfl ?_
  refine z_newa_i (X := 100) (f := fun i => iI ((mset m00 0 0 9) 24 (i : Int))) C hκ 187 100 rfl (by decide) (fun j => congrArg (fun z => Value.int (iI z)) (mset_k (by decide) : (mset m00 0 0 9) 24 (j : Int) = 0)) q741 (Nat.le_of_ble_eq_true rfl) (Nat.le_of_ble_eq_true rfl) dX7_init_185 rfl (fun a22 a22h a22n => ?_)
  refine z_putF C hκ 190 24 zk_X7 ((zup_n (fun z => (mMpP_none a22h).1 z.symm)).trans mMpP_o) (by decide) q2019 (Or.inl rfl) rfl rfl rfl rfl (by simp [mObP]) rfl dX7_init_187 rfl ?_
  obtain ⟨ar24, hD24, e24⟩ : ∃ ar', mDisP am ar' [1, 2, 3, 4, 5, 6, 7, 8, 9, 10, 13, 14, 15, 16, 17, 18, 19, 20, 21, 22, 23, 24] ∧ zup (zup (mMpP θ am ar23 (mset m00 0 0 9) [1, 2, 3, 4, 5, 6, 7, 8, 9, 10, 13, 14, 15, 16, 17, 18, 19, 20, 21, 22, 23]) a22 (mArr θ (mset m00 0 0 9) 24)) am (.inr (7, (mObP [1, 2, 3, 4, 5, 6, 7, 8, 9, 10, 13, 14, 15, 16, 17, 18, 19, 20, 21, 22, 23] ar23 (mset m00 0 0 9)).set 24 (.ref a22))) = mMpP θ am ar' (mset m00 0 0 9) [1, 2, 3, 4, 5, 6, 7, 8, 9, 10, 13, 14, 15, 16, 17, 18, 19, 20, 21, 22, 23, 24] := m_step hD23 (by decide) (by decide) a22h
  refine z_as (Pic' := zP θ (mMpP θ am ar24 (mset m00 0 0 9) [1, 2, 3, 4, 5, 6, 7, 8, 9, 10, 13, 14, 15, 16, 17, 18, 19, 20, 21, 22, 23, 24]) N) (congrArg (fun M => zP θ M N) e24) rfl rfl ?_
  refine z_aload_n C 191 0 dX7_init_190 rfl rfl ?_
  refine z_bipush C 193 dX7_init_191 (by decide) rfl ?_
  refine z_newa_i (X := 100) (f := fun i => iI ((mset m00 0 0 9) 25 (i : Int))) C hκ 195 100 rfl (by decide) (fun j => congrArg (fun z => Value.int (iI z)) (mset_k (by decide) : (mset m00 0 0 9) 25 (j : Int) = 0)) q741 (Nat.le_of_ble_eq_true rfl) (Nat.le_of_ble_eq_true rfl) dX7_init_193 rfl (fun a23 a23h a23n => ?_)
  refine z_putF C hκ 198 25 zk_X7 ((zup_n (fun z => (mMpP_none a23h).1 z.symm)).trans mMpP_o) (by decide) q2020 (Or.inl rfl) rfl rfl rfl rfl (by simp [mObP]) rfl dX7_init_195 rfl ?_
  obtain ⟨ar25, hD25, e25⟩ : ∃ ar', mDisP am ar' [1, 2, 3, 4, 5, 6, 7, 8, 9, 10, 13, 14, 15, 16, 17, 18, 19, 20, 21, 22, 23, 24, 25] ∧ zup (zup (mMpP θ am ar24 (mset m00 0 0 9) [1, 2, 3, 4, 5, 6, 7, 8, 9, 10, 13, 14, 15, 16, 17, 18, 19, 20, 21, 22, 23, 24]) a23 (mArr θ (mset m00 0 0 9) 25)) am (.inr (7, (mObP [1, 2, 3, 4, 5, 6, 7, 8, 9, 10, 13, 14, 15, 16, 17, 18, 19, 20, 21, 22, 23, 24] ar24 (mset m00 0 0 9)).set 25 (.ref a23))) = mMpP θ am ar' (mset m00 0 0 9) [1, 2, 3, 4, 5, 6, 7, 8, 9, 10, 13, 14, 15, 16, 17, 18, 19, 20, 21, 22, 23, 24, 25] := m_step hD24 (by decide) (by decide) a23h
  refine z_as (Pic' := zP θ (mMpP θ am ar25 (mset m00 0 0 9) [1, 2, 3, 4, 5, 6, 7, 8, 9, 10, 13, 14, 15, 16, 17, 18, 19, 20, 21, 22, 23, 24, 25]) N) (congrArg (fun M => zP θ M N) e25) rfl rfl ?_
  refine z_aload_n C 199 0 dX7_init_198 rfl rfl ?_
  refine z_bipush C 201 dX7_init_199 (by decide) rfl ?_
  refine z_newa_l (X := 100) (f := fun i => lI ((mset m00 0 0 9) 26 (i : Int))) C hκ 203 100 rfl (by decide) (fun j => congrArg (fun z => Value.long (lI z)) (mset_k (by decide) : (mset m00 0 0 9) 26 (j : Int) = 0)) q742 (Nat.le_of_ble_eq_true rfl) (Nat.le_of_ble_eq_true rfl) dX7_init_201 rfl (fun a24 a24h a24n => ?_)
  refine z_putF C hκ 206 26 zk_X7 ((zup_n (fun z => (mMpP_none a24h).1 z.symm)).trans mMpP_o) (by decide) q2021 (Or.inl rfl) rfl rfl rfl rfl (by simp [mObP]) rfl dX7_init_203 rfl ?_
  obtain ⟨ar26, hD26, e26⟩ : ∃ ar', mDisP am ar' [1, 2, 3, 4, 5, 6, 7, 8, 9, 10, 13, 14, 15, 16, 17, 18, 19, 20, 21, 22, 23, 24, 25, 26] ∧ zup (zup (mMpP θ am ar25 (mset m00 0 0 9) [1, 2, 3, 4, 5, 6, 7, 8, 9, 10, 13, 14, 15, 16, 17, 18, 19, 20, 21, 22, 23, 24, 25]) a24 (mArr θ (mset m00 0 0 9) 26)) am (.inr (7, (mObP [1, 2, 3, 4, 5, 6, 7, 8, 9, 10, 13, 14, 15, 16, 17, 18, 19, 20, 21, 22, 23, 24, 25] ar25 (mset m00 0 0 9)).set 26 (.ref a24))) = mMpP θ am ar' (mset m00 0 0 9) [1, 2, 3, 4, 5, 6, 7, 8, 9, 10, 13, 14, 15, 16, 17, 18, 19, 20, 21, 22, 23, 24, 25, 26] := m_step hD25 (by decide) (by decide) a24h
  refine z_as (Pic' := zP θ (mMpP θ am ar26 (mset m00 0 0 9) [1, 2, 3, 4, 5, 6, 7, 8, 9, 10, 13, 14, 15, 16, 17, 18, 19, 20, 21, 22, 23, 24, 25, 26]) N) (congrArg (fun M => zP θ M N) e26) rfl rfl ?_
  refine z_aload_n C 207 0 dX7_init_206 rfl rfl ?_
  refine z_bipush C 209 dX7_init_207 (by decide) rfl ?_
  refine z_newa_i (X := 80) (f := fun i => iI ((mset m00 0 0 9) 28 (i : Int))) C hκ 211 80 rfl (by decide) (fun j => congrArg (fun z => Value.int (iI z)) (mset_k (by decide) : (mset m00 0 0 9) 28 (j : Int) = 0)) q741 (Nat.le_of_ble_eq_true rfl) (Nat.le_of_ble_eq_true rfl) dX7_init_209 rfl (fun a25 a25h a25n => ?_)
  refine z_putF C hκ 214 28 zk_X7 ((zup_n (fun z => (mMpP_none a25h).1 z.symm)).trans mMpP_o) (by decide) q2023 (Or.inl rfl) rfl rfl rfl rfl (by simp [mObP]) rfl dX7_init_211 rfl ?_
  obtain ⟨ar28, hD28, e28⟩ : ∃ ar', mDisP am ar' [1, 2, 3, 4, 5, 6, 7, 8, 9, 10, 13, 14, 15, 16, 17, 18, 19, 20, 21, 22, 23, 24, 25, 26, 28] ∧ zup (zup (mMpP θ am ar26 (mset m00 0 0 9) [1, 2, 3, 4, 5, 6, 7, 8, 9, 10, 13, 14, 15, 16, 17, 18, 19, 20, 21, 22, 23, 24, 25, 26]) a25 (mArr θ (mset m00 0 0 9) 28)) am (.inr (7, (mObP [1, 2, 3, 4, 5, 6, 7, 8, 9, 10, 13, 14, 15, 16, 17, 18, 19, 20, 21, 22, 23, 24, 25, 26] ar26 (mset m00 0 0 9)).set 28 (.ref a25))) = mMpP θ am ar' (mset m00 0 0 9) [1, 2, 3, 4, 5, 6, 7, 8, 9, 10, 13, 14, 15, 16, 17, 18, 19, 20, 21, 22, 23, 24, 25, 26, 28] := m_step hD26 (by decide) (by decide) a25h
  refine z_as (Pic' := zP θ (mMpP θ am ar28 (mset m00 0 0 9) [1, 2, 3, 4, 5, 6, 7, 8, 9, 10, 13, 14, 15, 16, 17, 18, 19, 20, 21, 22, 23, 24, 25, 26, 28]) N) (congrArg (fun M => zP θ M N) e28) rfl rfl ?_
  refine z_aload_n C 215 0 dX7_init_214 rfl rfl ?_
  refine z_bipush C 217 dX7_init_215 (by decide) rfl ?_
  refine z_newa_i (X := 80) (f := fun i => iI ((mset m00 0 0 9) 29 (i : Int))) C hκ 219 80 rfl (by decide) (fun j => congrArg (fun z => Value.int (iI z)) (mset_k (by decide) : (mset m00 0 0 9) 29 (j : Int) = 0)) q741 (Nat.le_of_ble_eq_true rfl) (Nat.le_of_ble_eq_true rfl) dX7_init_217 rfl (fun a26 a26h a26n => ?_)
  refine z_putF C hκ 222 29 zk_X7 ((zup_n (fun z => (mMpP_none a26h).1 z.symm)).trans mMpP_o) (by decide) q2024 (Or.inl rfl) rfl rfl rfl rfl (by simp [mObP]) rfl dX7_init_219 rfl ?_
  obtain ⟨ar29, hD29, e29⟩ : ∃ ar', mDisP am ar' [1, 2, 3, 4, 5, 6, 7, 8, 9, 10, 13, 14, 15, 16, 17, 18, 19, 20, 21, 22, 23, 24, 25, 26, 28, 29] ∧ zup (zup (mMpP θ am ar28 (mset m00 0 0 9) [1, 2, 3, 4, 5, 6, 7, 8, 9, 10, 13, 14, 15, 16, 17, 18, 19, 20, 21, 22, 23, 24, 25, 26, 28]) a26 (mArr θ (mset m00 0 0 9) 29)) am (.inr (7, (mObP [1, 2, 3, 4, 5, 6, 7, 8, 9, 10, 13, 14, 15, 16, 17, 18, 19, 20, 21, 22, 23, 24, 25, 26, 28] ar28 (mset m00 0 0 9)).set 29 (.ref a26))) = mMpP θ am ar' (mset m00 0 0 9) [1, 2, 3, 4, 5, 6, 7, 8, 9, 10, 13, 14, 15, 16, 17, 18, 19, 20, 21, 22, 23, 24, 25, 26, 28, 29] := m_step hD28 (by decide) (by decide) a26h
  refine z_as (Pic' := zP θ (mMpP θ am ar29 (mset m00 0 0 9) [1, 2, 3, 4, 5, 6, 7, 8, 9, 10, 13, 14, 15, 16, 17, 18, 19, 20, 21, 22, 23, 24, 25, 26, 28, 29]) N) (congrArg (fun M => zP θ M N) e29) rfl rfl ?_
  refine z_aload_n C 223 0 dX7_init_222 rfl rfl ?_
  refine z_sipush C 226 dX7_init_223 (by decide) rfl ?_
  refine z_newa_l (X := 8000) (f := fun i => lI ((mset m00 0 0 9) 30 (i : Int))) C hκ 228 8000 rfl (by decide) (fun j => congrArg (fun z => Value.long (lI z)) (mset_k (by decide) : (mset m00 0 0 9) 30 (j : Int) = 0)) q742 (Nat.le_of_ble_eq_true rfl) (Nat.le_of_ble_eq_true rfl) dX7_init_226 rfl (fun a27 a27h a27n => ?_)
  refine z_putF C hκ 231 30 zk_X7 ((zup_n (fun z => (mMpP_none a27h).1 z.symm)).trans mMpP_o) (by decide) q2025 (Or.inl rfl) rfl rfl rfl rfl (by simp [mObP]) rfl dX7_init_228 rfl ?_
  obtain ⟨ar30, hD30, e30⟩ : ∃ ar', mDisP am ar' [1, 2, 3, 4, 5, 6, 7, 8, 9, 10, 13, 14, 15, 16, 17, 18, 19, 20, 21, 22, 23, 24, 25, 26, 28, 29, 30] ∧ zup (zup (mMpP θ am ar29 (mset m00 0 0 9) [1, 2, 3, 4, 5, 6, 7, 8, 9, 10, 13, 14, 15, 16, 17, 18, 19, 20, 21, 22, 23, 24, 25, 26, 28, 29]) a27 (mArr θ (mset m00 0 0 9) 30)) am (.inr (7, (mObP [1, 2, 3, 4, 5, 6, 7, 8, 9, 10, 13, 14, 15, 16, 17, 18, 19, 20, 21, 22, 23, 24, 25, 26, 28, 29] ar29 (mset m00 0 0 9)).set 30 (.ref a27))) = mMpP θ am ar' (mset m00 0 0 9) [1, 2, 3, 4, 5, 6, 7, 8, 9, 10, 13, 14, 15, 16, 17, 18, 19, 20, 21, 22, 23, 24, 25, 26, 28, 29, 30] := m_step hD29 (by decide) (by decide) a27h
  refine z_as (Pic' := zP θ (mMpP θ am ar30 (mset m00 0 0 9) [1, 2, 3, 4, 5, 6, 7, 8, 9, 10, 13, 14, 15, 16, 17, 18, 19, 20, 21, 22, 23, 24, 25, 26, 28, 29, 30]) N) (congrArg (fun M => zP θ M N) e30) rfl rfl ?_
  refine z_aload_n C 232 0 dX7_init_231 rfl rfl ?_
  refine z_sipush C 235 dX7_init_232 (by decide) rfl ?_
  refine z_newa_l (X := 1600) (f := fun i => lI ((mset m00 0 0 9) 31 (i : Int))) C hκ 237 1600 rfl (by decide) (fun j => congrArg (fun z => Value.long (lI z)) (mset_k (by decide) : (mset m00 0 0 9) 31 (j : Int) = 0)) q742 (Nat.le_of_ble_eq_true rfl) (Nat.le_of_ble_eq_true rfl) dX7_init_235 rfl (fun a28 a28h a28n => ?_)
  refine z_putF C hκ 240 31 zk_X7 ((zup_n (fun z => (mMpP_none a28h).1 z.symm)).trans mMpP_o) (by decide) q2026 (Or.inl rfl) rfl rfl rfl rfl (by simp [mObP]) rfl dX7_init_237 rfl ?_
  obtain ⟨ar31, hD31, e31⟩ : ∃ ar', mDisP am ar' [1, 2, 3, 4, 5, 6, 7, 8, 9, 10, 13, 14, 15, 16, 17, 18, 19, 20, 21, 22, 23, 24, 25, 26, 28, 29, 30, 31] ∧ zup (zup (mMpP θ am ar30 (mset m00 0 0 9) [1, 2, 3, 4, 5, 6, 7, 8, 9, 10, 13, 14, 15, 16, 17, 18, 19, 20, 21, 22, 23, 24, 25, 26, 28, 29, 30]) a28 (mArr θ (mset m00 0 0 9) 31)) am (.inr (7, (mObP [1, 2, 3, 4, 5, 6, 7, 8, 9, 10, 13, 14, 15, 16, 17, 18, 19, 20, 21, 22, 23, 24, 25, 26, 28, 29, 30] ar30 (mset m00 0 0 9)).set 31 (.ref a28))) = mMpP θ am ar' (mset m00 0 0 9) [1, 2, 3, 4, 5, 6, 7, 8, 9, 10, 13, 14, 15, 16, 17, 18, 19, 20, 21, 22, 23, 24, 25, 26, 28, 29, 30, 31] := m_step hD30 (by decide) (by decide) a28h
  refine z_as (Pic' := zP θ (mMpP θ am ar31 (mset m00 0 0 9) [1, 2, 3, 4, 5, 6, 7, 8, 9, 10, 13, 14, 15, 16, 17, 18, 19, 20, 21, 22, 23, 24, 25, 26, 28, 29, 30, 31]) N) (congrArg (fun M => zP θ M N) e31) rfl rfl ?_
  refine z_aload_n C 241 0 dX7_init_240 rfl rfl ?_
  refine z_bipush C 243 dX7_init_241 (by decide) rfl ?_
  refine z_newa_i (X := 8) (f := fun i => iI ((mset m00 0 0 9) 32 (i : Int))) C hκ 245 8 rfl (by decide) (fun j => congrArg (fun z => Value.int (iI z)) (mset_k (by decide) : (mset m00 0 0 9) 32 (j : Int) = 0)) q741 (Nat.le_of_ble_eq_true rfl) (Nat.le_of_ble_eq_true rfl) dX7_init_243 rfl (fun a29 a29h a29n => ?_)
  refine z_putF C hκ 248 32 zk_X7 ((zup_n (fun z => (mMpP_none a29h).1 z.symm)).trans mMpP_o) (by decide) q2027 (Or.inl rfl) rfl rfl rfl rfl (by simp [mObP]) rfl dX7_init_245 rfl ?_
  obtain ⟨ar32, hD32, e32⟩ : ∃ ar', mDisP am ar' [1, 2, 3, 4, 5, 6, 7, 8, 9, 10, 13, 14, 15, 16, 17, 18, 19, 20, 21, 22, 23, 24, 25, 26, 28, 29, 30, 31, 32] ∧ zup (zup (mMpP θ am ar31 (mset m00 0 0 9) [1, 2, 3, 4, 5, 6, 7, 8, 9, 10, 13, 14, 15, 16, 17, 18, 19, 20, 21, 22, 23, 24, 25, 26, 28, 29, 30, 31]) a29 (mArr θ (mset m00 0 0 9) 32)) am (.inr (7, (mObP [1, 2, 3, 4, 5, 6, 7, 8, 9, 10, 13, 14, 15, 16, 17, 18, 19, 20, 21, 22, 23, 24, 25, 26, 28, 29, 30, 31] ar31 (mset m00 0 0 9)).set 32 (.ref a29))) = mMpP θ am ar' (mset m00 0 0 9) [1, 2, 3, 4, 5, 6, 7, 8, 9, 10, 13, 14, 15, 16, 17, 18, 19, 20, 21, 22, 23, 24, 25, 26, 28, 29, 30, 31, 32] := m_step hD31 (by decide) (by decide) a29h
  refine z_as (Pic' := zP θ (mMpP θ am ar32 (mset m00 0 0 9) [1, 2, 3, 4, 5, 6, 7, 8, 9, 10, 13, 14, 15, 16, 17, 18, 19, 20, 21, 22, 23, 24, 25, 26, 28, 29, 30, 31, 32]) N) (congrArg (fun M => zP θ M N) e32) rfl rfl ?_
  refine z_aload_n C 249 0 dX7_init_248 rfl rfl ?_
  refine z_bipush C 251 dX7_init_249 (by decide) rfl ?_
  refine z_newa_l (X := 8) (f := fun i => lI ((mset m00 0 0 9) 33 (i : Int))) C hκ 253 8 rfl (by decide) (fun j => congrArg (fun z => Value.long (lI z)) (mset_k (by decide) : (mset m00 0 0 9) 33 (j : Int) = 0)) q742 (Nat.le_of_ble_eq_true rfl) (Nat.le_of_ble_eq_true rfl) dX7_init_251 rfl (fun a30 a30h a30n => ?_)
  refine z_putF C hκ 256 33 zk_X7 ((zup_n (fun z => (mMpP_none a30h).1 z.symm)).trans mMpP_o) (by decide) q2028 (Or.inl rfl) rfl rfl rfl rfl (by simp [mObP]) rfl dX7_init_253 rfl ?_
  obtain ⟨ar33, hD33, e33⟩ : ∃ ar', mDisP am ar' [1, 2, 3, 4, 5, 6, 7, 8, 9, 10, 13, 14, 15, 16, 17, 18, 19, 20, 21, 22, 23, 24, 25, 26, 28, 29, 30, 31, 32, 33] ∧ zup (zup (mMpP θ am ar32 (mset m00 0 0 9) [1, 2, 3, 4, 5, 6, 7, 8, 9, 10, 13, 14, 15, 16, 17, 18, 19, 20, 21, 22, 23, 24, 25, 26, 28, 29, 30, 31, 32]) a30 (mArr θ (mset m00 0 0 9) 33)) am (.inr (7, (mObP [1, 2, 3, 4, 5, 6, 7, 8, 9, 10, 13, 14, 15, 16, 17, 18, 19, 20, 21, 22, 23, 24, 25, 26, 28, 29, 30, 31, 32] ar32 (mset m00 0 0 9)).set 33 (.ref a30))) = mMpP θ am ar' (mset m00 0 0 9) [1, 2, 3, 4, 5, 6, 7, 8, 9, 10, 13, 14, 15, 16, 17, 18, 19, 20, 21, 22, 23, 24, 25, 26, 28, 29, 30, 31, 32, 33] := m_step hD32 (by decide) (by decide) a30h
  refine z_as (Pic' := zP θ (mMpP θ am ar33 (mset m00 0 0 9) [1, 2, 3, 4, 5, 6, 7, 8, 9, 10, 13, 14, 15, 16, 17, 18, 19, 20, 21, 22, 23, 24, 25, 26, 28, 29, 30, 31, 32, 33]) N) (congrArg (fun M => zP θ M N) e33) rfl rfl ?_
  refine z_aload_n C 257 0 dX7_init_256 rfl rfl ?_
  refine z_bipush C 259 dX7_init_257 (by decide) rfl ?_
  refine z_putf C hκ 262 34 zk_X7 mMpP_o (by decide) q2029 (Or.inl rfl) rfl rfl rfl (by simp [mObP]) rfl dX7_init_259 rfl ?_
  refine z_as (Pic' := zP θ (mMpP θ am ar33 m01 [1, 2, 3, 4, 5, 6, 7, 8, 9, 10, 13, 14, 15, 16, 17, 18, 19, 20, 21, 22, 23, 24, 25, 26, 28, 29, 30, 31, 32, 33]) N) (congrArg (fun M => zP θ M N) (m_stepi (by decide) (by decide) (by decide))) rfl rfl ?_
  refine z_aload_n C 263 0 dX7_init_262 rfl rfl ?_
  refine z_sipush C 266 dX7_init_263 (by decide) rfl ?_
  refine z_newa_i (X := 248) (f := fun i => iI (m01 40 (i : Int))) C hκ 268 248 rfl (by decide) (fun j => congrArg (fun z => Value.int (iI z)) ((mset_k (by decide)).trans (mset_k (by decide)) : m01 40 (j : Int) = 0)) q741 (Nat.le_of_ble_eq_true rfl) (Nat.le_of_ble_eq_true rfl) dX7_init_266 rfl (fun a31 a31h a31n => ?_)
  refine z_putF C hκ 271 40 zk_X7 ((zup_n (fun z => (mMpP_none a31h).1 z.symm)).trans mMpP_o) (by decide) q2035 (Or.inl rfl) rfl rfl rfl rfl (by simp [mObP]) rfl dX7_init_268 rfl ?_
  obtain ⟨ar40, hD40, e40⟩ : ∃ ar', mDisP am ar' [1, 2, 3, 4, 5, 6, 7, 8, 9, 10, 13, 14, 15, 16, 17, 18, 19, 20, 21, 22, 23, 24, 25, 26, 28, 29, 30, 31, 32, 33, 40] ∧ zup (zup (mMpP θ am ar33 m01 [1, 2, 3, 4, 5, 6, 7, 8, 9, 10, 13, 14, 15, 16, 17, 18, 19, 20, 21, 22, 23, 24, 25, 26, 28, 29, 30, 31, 32, 33]) a31 (mArr θ m01 40)) am (.inr (7, (mObP [1, 2, 3, 4, 5, 6, 7, 8, 9, 10, 13, 14, 15, 16, 17, 18, 19, 20, 21, 22, 23, 24, 25, 26, 28, 29, 30, 31, 32, 33] ar33 m01).set 40 (.ref a31))) = mMpP θ am ar' m01 [1, 2, 3, 4, 5, 6, 7, 8, 9, 10, 13, 14, 15, 16, 17, 18, 19, 20, 21, 22, 23, 24, 25, 26, 28, 29, 30, 31, 32, 33, 40] := m_step hD33 (by decide) (by decide) a31h
  refine z_as (Pic' := zP θ (mMpP θ am ar40 m01 [1, 2, 3, 4, 5, 6, 7, 8, 9, 10, 13, 14, 15, 16, 17, 18, 19, 20, 21, 22, 23, 24, 25, 26, 28, 29, 30, 31, 32, 33, 40]) N) (congrArg (fun M => zP θ M N) e40) rfl rfl ?_
  refine z_aload_n C 272 0 dX7_init_271 rfl rfl ?_
  refine z_bipush C 274 dX7_init_272 (by decide) rfl ?_
  refine z_newa_z (X := 60) (f := fun i => iI (m01 42 (i : Int))) C hκ 276 60 rfl (by decide) (fun j => congrArg (fun z => Value.int (iI z)) ((mset_k (by decide)).trans (mset_k (by decide)) : m01 42 (j : Int) = 0)) q216 (Nat.le_of_ble_eq_true rfl) (Nat.le_of_ble_eq_true rfl) dX7_init_274 rfl (fun a32 a32h a32n => ?_)
  refine z_putF C hκ 279 42 zk_X7 ((zup_n (fun z => (mMpP_none a32h).1 z.symm)).trans mMpP_o) (by decide) q2037 (Or.inl rfl) rfl rfl rfl rfl (by simp [mObP]) rfl dX7_init_276 rfl ?_
  obtain ⟨ar42, hD42, e42⟩ : ∃ ar', mDisP am ar' [1, 2, 3, 4, 5, 6, 7, 8, 9, 10, 13, 14, 15, 16, 17, 18, 19, 20, 21, 22, 23, 24, 25, 26, 28, 29, 30, 31, 32, 33, 40, 42] ∧ zup (zup (mMpP θ am ar40 m01 [1, 2, 3, 4, 5, 6, 7, 8, 9, 10, 13, 14, 15, 16, 17, 18, 19, 20, 21, 22, 23, 24, 25, 26, 28, 29, 30, 31, 32, 33, 40]) a32 (mArr θ m01 42)) am (.inr (7, (mObP [1, 2, 3, 4, 5, 6, 7, 8, 9, 10, 13, 14, 15, 16, 17, 18, 19, 20, 21, 22, 23, 24, 25, 26, 28, 29, 30, 31, 32, 33, 40] ar40 m01).set 42 (.ref a32))) = mMpP θ am ar' m01 [1, 2, 3, 4, 5, 6, 7, 8, 9, 10, 13, 14, 15, 16, 17, 18, 19, 20, 21, 22, 23, 24, 25, 26, 28, 29, 30, 31, 32, 33, 40, 42] := m_step hD40 (by decide) (by decide) a32h
  refine z_as (Pic' := zP θ (mMpP θ am ar42 m01 [1, 2, 3, 4, 5, 6, 7, 8, 9, 10, 13, 14, 15, 16, 17, 18, 19, 20, 21, 22, 23, 24, 25, 26, 28, 29, 30, 31, 32, 33, 40, 42]) N) (congrArg (fun M => zP θ M N) e42) rfl rfl ?_
  refine z_aload_n C 280 0 dX7_init_279 rfl rfl ?_
  refine z_bipush C 282 dX7_init_280 (by decide) rfl ?_
  refine z_newa_l (X := 20) (f := fun i => lI (m01 43 (i : Int))) C hκ 284 20 rfl (by decide) (fun j => congrArg (fun z => Value.long (lI z)) ((mset_k (by decide)).trans (mset_k (by decide)) : m01 43 (j : Int) = 0)) q742 (Nat.le_of_ble_eq_true rfl) (Nat.le_of_ble_eq_true rfl) dX7_init_282 rfl (fun a33 a33h a33n => ?_)
  refine z_putF C hκ 287 43 zk_X7 ((zup_n (fun z => (mMpP_none a33h).1 z.symm)).trans mMpP_o) (by decide) q2038 (Or.inl rfl) rfl rfl rfl rfl (by simp [mObP]) rfl dX7_init_284 rfl ?_
  obtain ⟨ar43, hD43, e43⟩ : ∃ ar', mDisP am ar' [1, 2, 3, 4, 5, 6, 7, 8, 9, 10, 13, 14, 15, 16, 17, 18, 19, 20, 21, 22, 23, 24, 25, 26, 28, 29, 30, 31, 32, 33, 40, 42, 43] ∧ zup (zup (mMpP θ am ar42 m01 [1, 2, 3, 4, 5, 6, 7, 8, 9, 10, 13, 14, 15, 16, 17, 18, 19, 20, 21, 22, 23, 24, 25, 26, 28, 29, 30, 31, 32, 33, 40, 42]) a33 (mArr θ m01 43)) am (.inr (7, (mObP [1, 2, 3, 4, 5, 6, 7, 8, 9, 10, 13, 14, 15, 16, 17, 18, 19, 20, 21, 22, 23, 24, 25, 26, 28, 29, 30, 31, 32, 33, 40, 42] ar42 m01).set 43 (.ref a33))) = mMpP θ am ar' m01 [1, 2, 3, 4, 5, 6, 7, 8, 9, 10, 13, 14, 15, 16, 17, 18, 19, 20, 21, 22, 23, 24, 25, 26, 28, 29, 30, 31, 32, 33, 40, 42, 43] := m_step hD42 (by decide) (by decide) a33h
  refine z_as (Pic' := zP θ (mMpP θ am ar43 m01 [1, 2, 3, 4, 5, 6, 7, 8, 9, 10, 13, 14, 15, 16, 17, 18, 19, 20, 21, 22, 23, 24, 25, 26, 28, 29, 30, 31, 32, 33, 40, 42, 43]) N) (congrArg (fun M => zP θ M N) e43) rfl rfl ?_
  refine z_aload_n C 288 0 dX7_init_287 rfl rfl ?_
  refine z_bipush C 290 dX7_init_288 (by decide) rfl ?_
  refine z_newa_i (X := 14) (f := fun i => iI (m01 46 (i : Int))) C hκ 292 14 rfl (by decide) (fun j => congrArg (fun z => Value.int (iI z)) ((mset_k (by decide)).trans (mset_k (by decide)) : m01 46 (j : Int) = 0)) q741 (Nat.le_of_ble_eq_true rfl) (Nat.le_of_ble_eq_true rfl) dX7_init_290 rfl (fun a34 a34h a34n => ?_)
  refine z_putF C hκ 295 46 zk_X7 ((zup_n (fun z => (mMpP_none a34h).1 z.symm)).trans mMpP_o) (by decide) q2041 (Or.inl rfl) rfl rfl rfl rfl (by simp [mObP]) rfl dX7_init_292 rfl ?_
  obtain ⟨ar46, hD46, e46⟩ : ∃ ar', mDisP am ar' [1, 2, 3, 4, 5, 6, 7, 8, 9, 10, 13, 14, 15, 16, 17, 18, 19, 20, 21, 22, 23, 24, 25, 26, 28, 29, 30, 31, 32, 33, 40, 42, 43, 46] ∧ zup (zup (mMpP θ am ar43 m01 [1, 2, 3, 4, 5, 6, 7, 8, 9, 10, 13, 14, 15, 16, 17, 18, 19, 20, 21, 22, 23, 24, 25, 26, 28, 29, 30, 31, 32, 33, 40, 42, 43]) a34 (mArr θ m01 46)) am (.inr (7, (mObP [1, 2, 3, 4, 5, 6, 7, 8, 9, 10, 13, 14, 15, 16, 17, 18, 19, 20, 21, 22, 23, 24, 25, 26, 28, 29, 30, 31, 32, 33, 40, 42, 43] ar43 m01).set 46 (.ref a34))) = mMpP θ am ar' m01 [1, 2, 3, 4, 5, 6, 7, 8, 9, 10, 13, 14, 15, 16, 17, 18, 19, 20, 21, 22, 23, 24, 25, 26, 28, 29, 30, 31, 32, 33, 40, 42, 43, 46] := m_step hD43 (by decide) (by decide) a34h
  refine z_as (Pic' := zP θ (mMpP θ am ar46 m01 [1, 2, 3, 4, 5, 6, 7, 8, 9, 10, 13, 14, 15, 16, 17, 18, 19, 20, 21, 22, 23, 24, 25, 26, 28, 29, 30, 31, 32, 33, 40, 42, 43, 46]) N) (congrArg (fun M => zP θ M N) e46) rfl rfl ?_
  refine z_aload_n C 296 0 dX7_init_295 rfl rfl ?_
  refine z_bipush C 298 dX7_init_296 (by decide) rfl ?_
  refine z_newa_l (X := 42) (f := fun i => lI (m01 47 (i : Int))) C hκ 300 42 rfl (by decide) (fun j => congrArg (fun z => Value.long (lI z)) ((mset_k (by decide)).trans (mset_k (by decide)) : m01 47 (j : Int) = 0)) q742 (Nat.le_of_ble_eq_true rfl) (Nat.le_of_ble_eq_true rfl) dX7_init_298 rfl (fun a35 a35h a35n => ?_)
  refine z_putF C hκ 303 47 zk_X7 ((zup_n (fun z => (mMpP_none a35h).1 z.symm)).trans mMpP_o) (by decide) q2042 (Or.inl rfl) rfl rfl rfl rfl (by simp [mObP]) rfl dX7_init_300 rfl ?_
  obtain ⟨ar47, hD47, e47⟩ : ∃ ar', mDisP am ar' [1, 2, 3, 4, 5, 6, 7, 8, 9, 10, 13, 14, 15, 16, 17, 18, 19, 20, 21, 22, 23, 24, 25, 26, 28, 29, 30, 31, 32, 33, 40, 42, 43, 46, 47] ∧ zup (zup (mMpP θ am ar46 m01 [1, 2, 3, 4, 5, 6, 7, 8, 9, 10, 13, 14, 15, 16, 17, 18, 19, 20, 21, 22, 23, 24, 25, 26, 28, 29, 30, 31, 32, 33, 40, 42, 43, 46]) a35 (mArr θ m01 47)) am (.inr (7, (mObP [1, 2, 3, 4, 5, 6, 7, 8, 9, 10, 13, 14, 15, 16, 17, 18, 19, 20, 21, 22, 23, 24, 25, 26, 28, 29, 30, 31, 32, 33, 40, 42, 43, 46] ar46 m01).set 47 (.ref a35))) = mMpP θ am ar' m01 [1, 2, 3, 4, 5, 6, 7, 8, 9, 10, 13, 14, 15, 16, 17, 18, 19, 20, 21, 22, 23, 24, 25, 26, 28, 29, 30, 31, 32, 33, 40, 42, 43, 46, 47] := m_step hD46 (by decide) (by decide) a35h
  refine z_as (Pic' := zP θ (mMpP θ am ar47 m01 [1, 2, 3, 4, 5, 6, 7, 8, 9, 10, 13, 14, 15, 16, 17, 18, 19, 20, 21, 22, 23, 24, 25, 26, 28, 29, 30, 31, 32, 33, 40, 42, 43, 46, 47]) N) (congrArg (fun M => zP θ M N) e47) rfl rfl ?_
  refine z_as (Pic' := mP θ am ar47 m01 N) (congrArg (fun M => zP θ M N) m_full) rfl rfl ?_
  obtain ⟨ar, ear⟩ : ∃ z, ar47 = z := ⟨_, rfl⟩
  rw [ear]
  have hD : mDis am ar := ear ▸ hD47
  have hw := m01_wf
  refine z_iconst C 304 dX7_init_303 rfl ?_
  refine z_istore_n (lv' := [(0, .ref (am)), (1, .int (iI (0)))]) C 305 [1, 0] dX7_init_304 (by decide) rfl rfl ?_
  have L305_36 : ∀ (fu : Nat) (k : Nat) (w' : mW) (hk : k ≤ 60) (ew : w' = nnW m01 k) (hw' : mWF w') (hme : 60 - k < fu), Z κ (mP θ am ar w' N) 35 19560 305 [(0, .ref (am)), (1, .int (iI ((k : Int))))] [] := by
    intro fu
    induction fu with
    | zero => intro k w' hk ew hw' hme; exact absurd hme (Nat.not_lt_zero _)
    | succ fu ih37 =>
      intro k w' hk ew hw' hme
      refine z_iload_n C 306 1 dX7_init_305 rfl rfl ?_
      refine z_bipush C 308 dX7_init_306 (by decide) rfl ?_
      refine z_icmp_ge C 338 311 dX7_init_308 (by decide) ⟨by omega, by omega⟩ ⟨by decide, by decide⟩ rfl (fun c38 => ?_) (fun c38 => ?_)
      · skip
        refine z_aload_n C 339 0 dX7_init_338 rfl rfl ?_
        refine m_geta C hκ 342 1 (by decide) rfl q1996 rfl dX7_init_339 rfl ?_
        refine z_bipush C 344 dX7_init_342 (by decide) rfl ?_
        refine z_iconst C 345 dX7_init_344 rfl ?_
        obtain ⟨w1, ew1⟩ : ∃ wz, mset w' 1 (8) (1) = wz := ⟨_, rfl⟩
        have hw1 : mWF w1 := ew1 ▸ hw'.set ⟨by decide, by decide⟩ rfl
        refine m_iast (len := 60) (w' := w1) C hκ hD 346 1 (by decide) rfl rfl (by decide) (by decide) dX7_init_345 rfl ew1 ?_
        refine z_iconst C 347 dX7_init_346 rfl ?_
        refine z_istore_n (lv' := [(0, .ref (am)), (1, .int (iI (0)))]) C 348 [1, 0] dX7_init_347 (by decide) rfl rfl ?_
        have L348_39 : ∀ (fu : Nat) (k : Nat) (w' : mW) (hk : k ≤ 8) (ew2 : w' = skW (mset (nnW m01 60) 1 8 1) k) (hw' : mWF w') (hme : 8 - k < fu), Z κ (mP θ am ar w' N) 35 19560 348 [(0, .ref (am)), (1, .int (iI ((k : Int))))] [] := by
          intro fu
          induction fu with
          | zero => intro k w' hk ew2 hw' hme; exact absurd hme (Nat.not_lt_zero _)
          | succ fu ih40 =>
            intro k w' hk ew2 hw' hme
            refine z_iload_n C 349 1 dX7_init_348 rfl rfl ?_
            refine z_bipush C 351 dX7_init_349 (by decide) rfl ?_
            refine z_icmp_ge C 367 354 dX7_init_351 (by decide) ⟨by omega, by omega⟩ ⟨by decide, by decide⟩ rfl (fun c41 => ?_) (fun c41 => ?_)
            · skip
              have hini : w' = iniW := by rw [ew2, show k = 8 by omega]; rfl
              refine z_aload_n C 368 0 dX7_init_367 rfl rfl ?_
              refine z_callV  (As := []) (rest := []) C hκ hκl 371 (k7_layOut hD hw'  (by rw [hini]; exact ini_mB) (by rw [hini]; exact ini_mBT)) dX7_init_368 q1975 q1977 qs34 q97 q1978 znX7_layOut (Nat.le_of_ble_eq_true rfl) (Nat.le_of_ble_eq_true rfl) (Nat.le_of_ble_eq_true rfl) (Nat.le_of_ble_eq_true rfl) mrec rfl rfl (Nat.le_of_ble_eq_true rfl) rfl (fun v9 Q9 h9 => ?_)
              obtain ⟨rfl, w2, rfl, hw2, hr42⟩ := h9
              refine z_as (st' := []) rfl rfl rfl ?_
              refine z_widen (n' := 35) (k' := 19560) (Nat.le_refl _) (Nat.le_refl _) ?_
              exact z_vret C dX7_init_371 (Nat.le_of_ble_eq_true rfl) (Nat.le_of_ble_eq_true rfl) ⟨rfl, ar, _, rfl, hD, hw2, (by have h := hr42; rw [hini, iniW_0] at h; exact h)⟩
            · skip
              refine z_aload_n C 355 0 dX7_init_354 rfl rfl ?_
              refine m_geta C hκ 358 32 (by decide) rfl q2027 rfl dX7_init_355 rfl ?_
              refine z_iload_n C 359 1 dX7_init_358 rfl rfl ?_
              refine z_iconst C 360 dX7_init_359 rfl ?_
              obtain ⟨w3, ew3⟩ : ∃ wz, mset w' 32 ((k : Int)) (4) = wz := ⟨_, rfl⟩
              have hw3 : mWF w3 := ew3 ▸ hw'.set ⟨by decide, by decide⟩ rfl
              refine m_iast (len := 8) (w' := w3) C hκ hD 361 32 (by decide) rfl rfl (by omega) (by omega) dX7_init_360 rfl ew3 ?_
              refine z_iinc (lv' := [(0, .ref (am)), (1, .int (iI (((k : Int)) + 1)))]) C 364 1 [1, 0] dX7_init_361 rfl (by decide) rfl rfl ?_
              refine z_goto C 348 dX7_init_364 (by decide) ?_
              refine z_as (lv' := [(0, .ref (am)), (1, .int (iI (((k + 1) : Int))))]) rfl rfl rfl ?_
              exact ih40 (k + 1) (w3) (by omega) (by rw [← ew3, ew2]; rfl) hw3 (by omega)
        refine z_as (lv' := [(0, .ref (am)), (1, .int (iI (((0) : Int))))]) rfl rfl rfl ?_
        exact L348_39 _ (0) (w1) (by omega) (by rw [← ew1, ew, show k = 60 by omega]; rfl) hw1 (Nat.lt_succ_self _)
      · skip
        refine z_aload_n C 312 0 dX7_init_311 rfl rfl ?_
        refine m_geta C hκ 315 2 (by decide) rfl q1997 rfl dX7_init_312 rfl ?_
        refine z_iload_n C 316 1 dX7_init_315 rfl rfl ?_
        refine z_iconst C 317 dX7_init_316 rfl ?_
        obtain ⟨w4, ew4⟩ : ∃ wz, mset w' 2 ((k : Int)) (-1) = wz := ⟨_, rfl⟩
        have hw4 : mWF w4 := ew4 ▸ hw'.set ⟨by decide, by decide⟩ rfl
        refine m_iast (len := 60) (w' := w4) C hκ hD 318 2 (by decide) rfl rfl (by omega) (by omega) dX7_init_317 rfl ew4 ?_
        refine z_aload_n C 319 0 dX7_init_318 rfl rfl ?_
        refine m_geta C hκ 322 4 (by decide) rfl q1999 rfl dX7_init_319 rfl ?_
        refine z_iload_n C 323 1 dX7_init_322 rfl rfl ?_
        refine z_iconst C 324 dX7_init_323 rfl ?_
        obtain ⟨w5, ew5⟩ : ∃ wz, mset w4 4 ((k : Int)) (-1) = wz := ⟨_, rfl⟩
        have hw5 : mWF w5 := ew5 ▸ hw4.set ⟨by decide, by decide⟩ rfl
        refine m_iast (len := 60) (w' := w5) C hκ hD 325 4 (by decide) rfl rfl (by omega) (by omega) dX7_init_324 rfl ew5 ?_
        refine z_aload_n C 326 0 dX7_init_325 rfl rfl ?_
        refine m_geta C hκ 329 5 (by decide) rfl q2000 rfl dX7_init_326 rfl ?_
        refine z_iload_n C 330 1 dX7_init_329 rfl rfl ?_
        refine z_iconst C 331 dX7_init_330 rfl ?_
        obtain ⟨w6, ew6⟩ : ∃ wz, mset w5 5 ((k : Int)) (-1) = wz := ⟨_, rfl⟩
        have hw6 : mWF w6 := ew6 ▸ hw5.set ⟨by decide, by decide⟩ rfl
        refine m_iast (len := 60) (w' := w6) C hκ hD 332 5 (by decide) rfl rfl (by omega) (by omega) dX7_init_331 rfl ew6 ?_
        refine z_iinc (lv' := [(0, .ref (am)), (1, .int (iI (((k : Int)) + 1)))]) C 335 1 [1, 0] dX7_init_332 rfl (by decide) rfl rfl ?_
        refine z_goto C 305 dX7_init_335 (by decide) ?_
        refine z_as (lv' := [(0, .ref (am)), (1, .int (iI (((k + 1) : Int))))]) rfl rfl rfl ?_
        exact ih37 (k + 1) (w6) (by omega) (by rw [← ew6, ← ew5, ← ew4, ew]; rfl) hw6 (by omega)
  refine z_as (lv' := [(0, .ref (am)), (1, .int (iI (((0) : Int))))]) rfl rfl rfl ?_
  exact L305_36 _ (0) (m01) (by omega) rfl hw (Nat.lt_succ_self _)
