/-! ===== the Model's picture: numbers by field and place ===== -/
abbrev mIx : List Nat := [1, 2, 3, 4, 5, 6, 7, 8, 9, 10, 13, 14, 15, 16, 17, 18, 19, 20, 21, 22, 23, 24, 25, 26, 28, 29, 30, 31, 32, 33, 40, 42, 43, 46, 47]
def mLen : Nat → Nat
  | 1 => 60
  | 2 => 60
  | 3 => 60
  | 4 => 60
  | 5 => 60
  | 6 => 60
  | 7 => 180
  | 8 => 3600
  | 9 => 3600
  | 10 => 60
  | 13 => 100
  | 14 => 100
  | 15 => 100
  | 16 => 100
  | 17 => 100
  | 18 => 100
  | 19 => 300
  | 20 => 100
  | 21 => 100
  | 22 => 100
  | 23 => 100
  | 24 => 100
  | 25 => 100
  | 26 => 100
  | 28 => 80
  | 29 => 80
  | 30 => 8000
  | 31 => 1600
  | 32 => 8
  | 33 => 8
  | 40 => 248
  | 42 => 60
  | 43 => 20
  | 46 => 14
  | 47 => 42
  | _ => 0
def mKd : Nat → Nat
  | 1 => 1
  | 2 => 1
  | 3 => 1
  | 4 => 1
  | 5 => 1
  | 6 => 1
  | 7 => 1
  | 8 => 2
  | 9 => 1
  | 10 => 1
  | 13 => 1
  | 14 => 1
  | 15 => 1
  | 16 => 2
  | 17 => 1
  | 18 => 1
  | 19 => 1
  | 20 => 2
  | 21 => 2
  | 22 => 1
  | 23 => 1
  | 24 => 1
  | 25 => 1
  | 26 => 3
  | 28 => 1
  | 29 => 1
  | 30 => 3
  | 31 => 3
  | 32 => 1
  | 33 => 3
  | 40 => 1
  | 42 => 2
  | 43 => 3
  | 46 => 1
  | 47 => 3
  | _ => 0
abbrev mW : Type := Nat → Int → Int
def mset (w : mW) (k : Nat) (i v : Int) : mW := fun k' i' => if k' = k ∧ i' = i then v else w k' i'
theorem mset_s {w : mW} {k : Nat} {i v : Int} : mset w k i v k i = v := by simp [mset]
theorem mset_k {w : mW} {k k' : Nat} {i i' v : Int} (h : k' ≠ k) : mset w k i v k' i' = w k' i' := by simp [mset, h]
theorem mset_i {w : mW} {k : Nat} {i i' v : Int} (h : i' ≠ i) : mset w k i v k i' = w k i' := by simp [mset, h]
def mFv (ar : Nat → Nat) (w : mW) (k : Nat) : Value := if k ∈ mIx then .ref (ar k) else if k = 50 then .long (lI (w 50 0)) else .int (iI (w k 0))
def mObj (ar : Nat → Nat) (w : mW) : List Value := (List.range 52).map (mFv ar w)
def mArr (θ : zTh) (w : mW) (j : Nat) : va_E := if mKd j = 3 then .inl (θ.2.1 5, mLen j, .inr (.inl (fun i => lI (w j (i : Int))))) else if mKd j = 2 then .inl (θ.2.1 0, mLen j, .inl (fun i => iI (w j (i : Int)))) else .inl (θ.2.1 4, mLen j, .inl (fun i => iI (w j (i : Int))))
def mMap (θ : zTh) (am : Nat) (ar : Nat → Nat) (w : mW) : zMap := fun a => if a = am then some (.inr (7, mObj ar w)) else (mIx.find? (fun j => decide (ar j = a))).map (mArr θ w)
def mDis (am : Nat) (ar : Nat → Nat) : Prop := (∀ i ∈ mIx, ∀ j ∈ mIx, ar i = ar j → i = j) ∧ ∀ j ∈ mIx, ar j ≠ am
def mP (θ : zTh) (am : Nat) (ar : Nat → Nat) (w : mW) (N : zMap) : Heap → Prop := zP θ (mMap θ am ar w) N
theorem mfind {ar : Nat → Nat} {j : Nat} : ∀ (l : List Nat), j ∈ l → (∀ i ∈ l, ar i = ar j → i = j) → l.find? (fun i => decide (ar i = ar j)) = some j
  | [], h, _ => by cases h
  | i :: l, h, hi => by
    by_cases he : ar i = ar j
    · have := hi i List.mem_cons_self he
      subst this
      simp
    · rw [List.find?_cons_of_neg (by simpa using he)]
      refine mfind l ?_ (fun x hx => hi x (List.mem_cons_of_mem _ hx))
      rcases List.mem_cons.mp h with rfl | h
      · exact absurd rfl he
      · exact h
theorem mMap_o {θ : zTh} {am : Nat} {ar : Nat → Nat} {w : mW} : mMap θ am ar w am = some (.inr (7, mObj ar w)) := by simp [mMap]
theorem mMap_a {θ : zTh} {am : Nat} {ar : Nat → Nat} {w : mW} {j : Nat} (hD : mDis am ar) (hj : j ∈ mIx) : mMap θ am ar w (ar j) = some (mArr θ w j) := by
  unfold mMap
  rw [if_neg (hD.2 j hj), mfind mIx hj (fun i hi => hD.1 i hi j hj)]
  rfl
theorem mObj_get {ar : Nat → Nat} {w : mW} {k : Nat} (hk : k < 52) : (mObj ar w)[k]? = some (mFv ar w k) := by
  unfold mObj
  rw [List.getElem?_map, List.getElem?_range hk]
  rfl
theorem mArr_ne {θ : zTh} {w : mW} {k j : Nat} {i v : Int} (h : j ≠ k) : mArr θ (mset w k i v) j = mArr θ w j := by
  unfold mArr
  have : ∀ x : Int, mset w k i v j x = w j x := fun x => mset_k h
  simp only [this]
theorem mFv_ar {ar : Nat → Nat} {w : mW} {k k' : Nat} {i v : Int} (hk : k ∈ mIx) : mFv ar (mset w k i v) k' = mFv ar w k' := by
  unfold mFv
  by_cases h1 : k' ∈ mIx
  · rw [if_pos h1, if_pos h1]
  · rw [if_neg h1, if_neg h1]
    have hne : k' ≠ k := fun z => h1 (z ▸ hk)
    have h5 : (50 : Nat) ≠ k := fun z => by subst z; revert hk; decide
    rw [mset_k hne, mset_k h5]
theorem mMap_set {θ : zTh} {am : Nat} {ar : Nat → Nat} {w : mW} {k : Nat} {i v : Int} (hD : mDis am ar) (hk : k ∈ mIx) : zup (mMap θ am ar w) (ar k) (mArr θ (mset w k i v) k) = mMap θ am ar (mset w k i v) := by
  funext a
  by_cases ha : a = ar k
  · subst ha
    rw [zup_s, mMap_a hD hk]
  · rw [zup_n ha]
    unfold mMap
    by_cases h0 : a = am
    · rw [if_pos h0, if_pos h0]
      unfold mObj
      have : mFv ar (mset w k i v) = mFv ar w := funext fun k' => mFv_ar hk
      rw [this]
    · rw [if_neg h0, if_neg h0]
      cases hf : mIx.find? (fun j => decide (ar j = a)) with
      | none => rfl
      | some j =>
        have h1 := List.find?_some hf
        have hj : j ≠ k := fun z => ha (by subst z; simpa using (of_decide_eq_true h1).symm)
        show some (mArr θ w j) = some (mArr θ (mset w k i v) j)
        rw [mArr_ne hj]
theorem mMap_put {θ : zTh} {am : Nat} {ar : Nat → Nat} {w : mW} {k : Nat} {z : Int} (hk : k < 52) (hk1 : k ∉ mIx) : zup (mMap θ am ar w) am (.inr (7, (mObj ar w).set k (mFv ar (mset w k 0 z) k))) = mMap θ am ar (mset w k 0 z) := by
  funext a
  by_cases ha : a = am
  · subst ha
    rw [zup_s, mMap_o]
    congr 3
    apply List.ext_getElem?
    intro i
    rw [List.getElem?_set]
    by_cases hi : i < 52
    · rw [mObj_get hi, mObj_get hi]
      by_cases hik : k = i
      · subst hik
        rw [if_pos rfl, if_pos (by simp [mObj, hi])]
      · rw [if_neg hik]
        unfold mFv
        by_cases h1 : i ∈ mIx
        · rw [if_pos h1, if_pos h1]
        · rw [if_neg h1, if_neg h1, mset_k (Ne.symm hik)]
          by_cases h5 : i = 50
          · rw [if_pos h5, if_pos h5, mset_k (by omega)]
          · rw [if_neg h5, if_neg h5]
    · have e1 : (mObj ar w)[i]? = none := by simp [mObj, Nat.not_lt.mp hi]
      have e2 : (mObj ar (mset w k 0 z))[i]? = none := by simp [mObj, Nat.not_lt.mp hi]
      rw [e1, e2, if_neg (by omega)]
  · rw [zup_n ha]
    unfold mMap
    rw [if_neg ha, if_neg ha]
    cases hf : mIx.find? (fun j => decide (ar j = a)) with
    | none => rfl
    | some j =>
      have hj : j ≠ k := fun z => hk1 (z ▸ List.mem_of_find?_eq_some hf)
      show some (mArr θ w j) = some (mArr θ (mset w k 0 z) j)
      rw [mArr_ne hj]
/-- the numbers are in their ranges -/
def mLg (k : Nat) : Bool := decide (k ∈ [26, 30, 31, 33, 43, 47, 50])
def mBl (k : Nat) : Bool := decide (k ∈ [8, 16, 20, 21, 42])
def mWF (w : mW) : Prop := ∀ (k : Nat) (i : Int), (mLg k = false → inR (w k i)) ∧ inL (w k i) ∧ (mBl k = true → w k i = 0 ∨ w k i = 1)
theorem mWF.r {w : mW} (h : mWF w) (k : Nat) (i : Int) (hk : mLg k = false) : inR (w k i) := (h k i).1 hk
theorem mWF.l {w : mW} (h : mWF w) (k : Nat) (i : Int) : inL (w k i) := (h k i).2.1
theorem mWF.b {w : mW} (h : mWF w) (k : Nat) (i : Int) (hk : mBl k = true) : w k i = 0 ∨ w k i = 1 := (h k i).2.2 hk
theorem mWF.set {w : mW} (h : mWF w) {k : Nat} {i v : Int} (h1 : inR v) (h2 : mBl k = false) : mWF (mset w k i v) := by
  intro k' i'
  by_cases hc : k' = k ∧ i' = i
  · obtain ⟨rfl, rfl⟩ := hc
    rw [mset_s]
    exact ⟨fun _ => h1, inR_L h1, fun z => by rw [h2] at z; cases z⟩
  · have e : mset w k i v k' i' = w k' i' := by unfold mset; rw [if_neg hc]
    rw [e]; exact h k' i'
theorem mWF.setB {w : mW} (h : mWF w) {k : Nat} {i v : Int} (h1 : v = 0 ∨ v = 1) : mWF (mset w k i v) := by
  have hr : inR v := by rcases h1 with rfl | rfl <;> exact ⟨by decide, by decide⟩
  intro k' i'
  by_cases hc : k' = k ∧ i' = i
  · obtain ⟨rfl, rfl⟩ := hc
    rw [mset_s]
    exact ⟨fun _ => hr, inR_L hr, fun _ => h1⟩
  · have e : mset w k i v k' i' = w k' i' := by unfold mset; rw [if_neg hc]
    rw [e]; exact h k' i'
theorem mWF.setL {w : mW} (h : mWF w) {k : Nat} {i v : Int} (h1 : inL v) (hk : mLg k = true) (h2 : mBl k = false) : mWF (mset w k i v) := by
  intro k' i'
  by_cases hc : k' = k ∧ i' = i
  · obtain ⟨rfl, rfl⟩ := hc
    rw [mset_s]
    exact ⟨fun z => absurd (hk.symm.trans z) (by decide), h1, fun z => absurd (h2.symm.trans z) (by decide)⟩
  · have e : mset w k i v k' i' = w k' i' := by unfold mset; rw [if_neg hc]
    rw [e]; exact h k' i'
section MRow
variable {κ : zK} {nm : String} {cc : ByteArray} {nL : Nat} {ret : Option FieldType} {rm : Room} {P : Option Value → (Heap → Prop) → Prop} {n k pc : Nat} {lv : List (Nat × Value)} {st rest : List Value}
variable {θ : zTh} {am index : Nat} {ar : Nat → Nat} {w : mW} {N : zMap}
theorem m_geti (C : ZC κ RX7 nm cc nL ret rm P) (hκ : κ.1 = θ) (q f : Nat) (hf : f < 52) (hs : mFv ar w f = .int (iI (w f 0))) (hlink : Cond.fieldLink RX7 index RX7 (TX7 f).2.1 (TX7 f).2.2.1 ∈ lw_all) (hsm : RX7 = (TX7 f).1) (d : decode cc pc = .ok (.getfield index, 3)) (hq : pc + 3 = q) (kk : Z κ (mP θ am ar w N) n k q lv (.int (iI (w f 0)) :: rest)) : Z κ (mP θ am ar w N) n k pc lv (.ref am :: rest) :=
  z_getf C hκ q f zk_X7 mMap_o hf hlink (Or.inl hsm) (by rw [mObj_get hf, hs]) d hq kk
theorem m_getl (C : ZC κ RX7 nm cc nL ret rm P) (hκ : κ.1 = θ) (q f : Nat) (hf : f < 52) (hs : mFv ar w f = .long (lI (w f 0))) (hlink : Cond.fieldLink RX7 index RX7 (TX7 f).2.1 (TX7 f).2.2.1 ∈ lw_all) (hsm : RX7 = (TX7 f).1) (d : decode cc pc = .ok (.getfield index, 3)) (hq : pc + 3 = q) (kk : Z κ (mP θ am ar w N) n k q lv (.long (lI (w f 0)) :: rest)) : Z κ (mP θ am ar w N) n k pc lv (.ref am :: rest) :=
  z_getf C hκ q f zk_X7 mMap_o hf hlink (Or.inl hsm) (by rw [mObj_get hf, hs]) d hq kk
theorem m_geta (C : ZC κ RX7 nm cc nL ret rm P) (hκ : κ.1 = θ) (q f : Nat) (hf : f < 52) (hs : mFv ar w f = .ref (ar f)) (hlink : Cond.fieldLink RX7 index RX7 (TX7 f).2.1 (TX7 f).2.2.1 ∈ lw_all) (hsm : RX7 = (TX7 f).1) (d : decode cc pc = .ok (.getfield index, 3)) (hq : pc + 3 = q) (kk : Z κ (mP θ am ar w N) n k q lv (.ref (ar f) :: rest)) : Z κ (mP θ am ar w N) n k pc lv (.ref am :: rest) :=
  z_getf C hκ q f zk_X7 mMap_o hf hlink (Or.inl hsm) (by rw [mObj_get hf, hs]) d hq kk
theorem m_puti (C : ZC κ RX7 nm cc nL ret rm P) (hκ : κ.1 = θ) {z : Int} {w' : mW} (q f : Nat) (hf : f < 52) (hf1 : f ∉ mIx) (hs : mFv ar (mset w f 0 z) f = .int (iI z)) (hlink : Cond.fieldLink RX7 index RX7 (TX7 f).2.1 (TX7 f).2.2.1 ∈ lw_all) (hsm : RX7 = (TX7 f).1) (hfin : (TX7 f).2.2.2 = false) (hn : narrow (tyX7 f) (.int (iI z)) = .int (iI z)) (hfit : fits (tyX7 f) (.int (iI z)) = true) (d : decode cc pc = .ok (.putfield index, 3)) (hq : pc + 3 = q) (hww : mset w f 0 z = w') (kk : Z κ (mP θ am ar w' N) n k q lv rest) : Z κ (mP θ am ar w N) n k pc lv (.int (iI z) :: .ref am :: rest) := by
  subst hww
  refine z_putf C hκ q f zk_X7 mMap_o hf hlink (Or.inl hsm) hfin hn hfit (by simp [mObj, hf]) rfl d hq ?_
  rw [← hs, mMap_put hf hf1]
  exact kk
theorem m_putl (C : ZC κ RX7 nm cc nL ret rm P) (hκ : κ.1 = θ) {z : Int} {w' : mW} (q f : Nat) (hf : f < 52) (hf1 : f ∉ mIx) (hs : mFv ar (mset w f 0 z) f = .long (lI z)) (hlink : Cond.fieldLink RX7 index RX7 (TX7 f).2.1 (TX7 f).2.2.1 ∈ lw_all) (hsm : RX7 = (TX7 f).1) (hfin : (TX7 f).2.2.2 = false) (hn : narrow (tyX7 f) (.long (lI z)) = .long (lI z)) (hfit : fits (tyX7 f) (.long (lI z)) = true) (d : decode cc pc = .ok (.putfield index, 3)) (hq : pc + 3 = q) (hww : mset w f 0 z = w') (kk : Z κ (mP θ am ar w' N) n k q lv rest) : Z κ (mP θ am ar w N) n k pc lv (.long (lI z) :: .ref am :: rest) := by
  subst hww
  refine z_putf C hκ q f zk_X7 mMap_o hf hlink (Or.inl hsm) hfin hn hfit (by simp [mObj, hf]) rfl d hq ?_
  rw [← hs, mMap_put hf hf1]
  exact kk
theorem mLen_le (f : Nat) : mLen f ≤ 2147483647 := by unfold mLen; split <;> decide
abbrev mb (w : mW) (f : Nat) (x : Int) : Bool := decide (w f x = 1)
theorem mb_eq {w : mW} (hw : mWF w) {f : Nat} (hf : mBl f = true) (x : Int) : bI (mb w f x) = w f x := by rcases hw.b f x hf with h | h <;> simp [mb, bI, h]
theorem m_iald (C : ZC κ RX7 nm cc nL ret rm P) (hκ : κ.1 = θ) (hD : mDis am ar) {X len : Int} (q f : Nat) (hf : f ∈ mIx) (hkd : mKd f = 1) (hlen : (mLen f : Int) = len) (h0 : 0 ≤ X) (h1 : X < len) (d : decode cc pc = .ok (.iaload, 1)) (hq : pc + 1 = q) (kk : Z κ (mP θ am ar w N) n k q lv (.int (iI (w f X)) :: rest)) : Z κ (mP θ am ar w N) n k pc lv (.int (iI X) :: .ref (ar f) :: rest) :=
  z_iald C hκ q (by rw [mMap_a hD hf]; simp only [mArr, hkd]; rfl) h0 (by rw [hlen]; exact h1) (mLen_le f) (by rw [Int.toNat_of_nonneg h0]) d hq kk
theorem m_bald (C : ZC κ RX7 nm cc nL ret rm P) (hκ : κ.1 = θ) (hD : mDis am ar) (hw : mWF w) {X len : Int} (q f : Nat) (hf : f ∈ mIx) (hkd : mKd f = 2) (hbl : mBl f = true) (hlen : (mLen f : Int) = len) (h0 : 0 ≤ X) (h1 : X < len) (d : decode cc pc = .ok (.baload, 1)) (hq : pc + 1 = q) (kk : Z κ (mP θ am ar w N) n k q lv (.int (iI (bI (mb w f X))) :: rest)) : Z κ (mP θ am ar w N) n k pc lv (.int (iI X) :: .ref (ar f) :: rest) :=
  z_zald C hκ q (by rw [mMap_a hD hf]; simp only [mArr, hkd]; rfl) h0 (by rw [hlen]; exact h1) (mLen_le f) (by rw [Int.toNat_of_nonneg h0]; rw [mb_eq hw hbl]) d hq kk
theorem m_lald (C : ZC κ RX7 nm cc nL ret rm P) (hκ : κ.1 = θ) (hD : mDis am ar) {X len : Int} (q f : Nat) (hf : f ∈ mIx) (hkd : mKd f = 3) (hlen : (mLen f : Int) = len) (h0 : 0 ≤ X) (h1 : X < len) (d : decode cc pc = .ok (.laload, 1)) (hq : pc + 1 = q) (kk : Z κ (mP θ am ar w N) n k q lv (.long (lI (w f X)) :: rest)) : Z κ (mP θ am ar w N) n k pc lv (.int (iI X) :: .ref (ar f) :: rest) :=
  z_lald C hκ q (by rw [mMap_a hD hf]; simp only [mArr, hkd]; rfl) h0 (by rw [hlen]; exact h1) (mLen_le f) (by rw [Int.toNat_of_nonneg h0]) d hq kk
theorem m_iast (C : ZC κ RX7 nm cc nL ret rm P) (hκ : κ.1 = θ) (hD : mDis am ar) {X z len : Int} {w' : mW} (q f : Nat) (hf : f ∈ mIx) (hkd : mKd f = 1) (hlen : (mLen f : Int) = len) (h0 : 0 ≤ X) (h1 : X < len) (d : decode cc pc = .ok (.iastore, 1)) (hq : pc + 1 = q) (hww : mset w f X z = w') (kk : Z κ (mP θ am ar w' N) n k q lv rest) : Z κ (mP θ am ar w N) n k pc lv (.int (iI z) :: .int (iI X) :: .ref (ar f) :: rest) := by
  subst hww
  refine z_iast C hκ (f' := fun i => iI (mset w f X z f (i : Int))) q (by rw [mMap_a hD hf]; simp only [mArr, hkd]; rfl) h0 (by rw [hlen]; exact h1) (mLen_le f) ?_ d hq ?_
  · funext i
    unfold upd mset
    by_cases hi : i = X.toNat
    · subst hi
      rw [if_pos rfl, if_pos ⟨rfl, Int.toNat_of_nonneg h0⟩]
    · rw [if_neg hi, if_neg (fun h => hi (by omega))]
  · have e : mArr θ (mset w f X z) f = (.inl (θ.2.1 4, mLen f, .inl (fun i => iI (mset w f X z f (i : Int)))) : va_E) := by simp only [mArr, hkd]; rfl
    rw [← e, mMap_set hD hf]
    exact kk
theorem m_bast (C : ZC κ RX7 nm cc nL ret rm P) (hκ : κ.1 = θ) (hD : mDis am ar) {X z len : Int} {w' : mW} (q f : Nat) (hf : f ∈ mIx) (hkd : mKd f = 2) (hlen : (mLen f : Int) = len) (h0 : 0 ≤ X) (h1 : X < len) (hz : z = 0 ∨ z = 1) (d : decode cc pc = .ok (.bastore, 1)) (hq : pc + 1 = q) (hww : mset w f X z = w') (kk : Z κ (mP θ am ar w' N) n k q lv rest) : Z κ (mP θ am ar w N) n k pc lv (.int (iI z) :: .int (iI X) :: .ref (ar f) :: rest) := by
  subst hww
  refine z_zast C hκ (f' := fun i => iI (mset w f X z f (i : Int))) q (by rw [mMap_a hD hf]; simp only [mArr, hkd]; rfl) h0 (by rw [hlen]; exact h1) (mLen_le f) (by rcases hz with rfl | rfl <;> rfl) ?_ d hq ?_
  · funext i
    unfold upd mset
    by_cases hi : i = X.toNat
    · subst hi
      rw [if_pos rfl, if_pos ⟨rfl, Int.toNat_of_nonneg h0⟩]
    · rw [if_neg hi, if_neg (fun h => hi (by omega))]
  · have e : mArr θ (mset w f X z) f = (.inl (θ.2.1 0, mLen f, .inl (fun i => iI (mset w f X z f (i : Int)))) : va_E) := by simp only [mArr, hkd]; rfl
    rw [← e, mMap_set hD hf]
    exact kk
theorem m_last (C : ZC κ RX7 nm cc nL ret rm P) (hκ : κ.1 = θ) (hD : mDis am ar) {X z len : Int} {w' : mW} (q f : Nat) (hf : f ∈ mIx) (hkd : mKd f = 3) (hlen : (mLen f : Int) = len) (h0 : 0 ≤ X) (h1 : X < len) (d : decode cc pc = .ok (.lastore, 1)) (hq : pc + 1 = q) (hww : mset w f X z = w') (kk : Z κ (mP θ am ar w' N) n k q lv rest) : Z κ (mP θ am ar w N) n k pc lv (.long (lI z) :: .int (iI X) :: .ref (ar f) :: rest) := by
  subst hww
  refine z_last C hκ (f' := fun i => lI (mset w f X z f (i : Int))) q (by rw [mMap_a hD hf]; simp only [mArr, hkd]; rfl) h0 (by rw [hlen]; exact h1) (mLen_le f) ?_ d hq ?_
  · funext i
    unfold vp_updL mset
    by_cases hi : i = X.toNat
    · subst hi
      rw [if_pos rfl, if_pos ⟨rfl, Int.toNat_of_nonneg h0⟩]
    · rw [if_neg hi, if_neg (fun h => hi (by omega))]
  · have e : mArr θ (mset w f X z) f = (.inl (θ.2.1 5, mLen f, .inr (.inl (fun i => lI (mset w f X z f (i : Int))))) : va_E) := by simp only [mArr, hkd]; rfl
    rw [← e, mMap_set hD hf]
    exact kk
theorem mrec {θ : zTh} {am : Nat} {ar : Nat → Nat} {w : mW} {N : zMap} : zrec θ 7 am (mP θ am ar w N) := zrec_P mMap_o
end MRow
