/-! ===== the Model: calls, step by step ===== -/
def flW (w : mW) (k m d : Int) : mW := mset (mset (mset (mset w 51 0 k) 37 0 k) 38 0 m) 39 0 d
def cmW (w : mW) (t b : Int) : mW := mset (mset w 49 0 t) 50 0 b
def vrB (w : mW) (m : Int) (it : Bool) : Bool := !it && !hasB w m 4 && !prB w m
def beI (w : mW) (m : Int) (it : Bool) : Int := if w 45 0 = 12 then -1 else if vrB w m it then foI w (w 28 (w 48 0)) m else m
def beW (w : mW) (m : Int) (it : Bool) : mW := if w 45 0 = 12 then flW w 10 m (w 45 0) else if vrB w m it && decide (foI w (w 28 (w 48 0)) m = -1) then flW w 7 m (w 45 0) else w
theorem flW_wf {w : mW} {k m d : Int} (hw : mWF w) (h1 : inR k) (h2 : inR m) (h3 : inR d) : mWF (flW w k m d) := (((hw.set h1 rfl).set h1 rfl).set h2 rfl).set h3 rfl
theorem cmW_wf {w : mW} {t b : Int} (hw : mWF w) (h1 : inR t) (h2 : inL b) : mWF (cmW w t b) := (hw.set h1 rfl).setL h2 rfl rfl
/-- the same in what types, members, things, slots are -/
def sS (w w' : mW) : Prop := ∀ (k : Nat) (i : Int), k < 35 → w' k i = w k i
def nrmS (w : mW) : mW := fun k i => if k < 35 then w k i else 0
theorem nrmS_eq {w w' : mW} (h : sS w w') : nrmS w' = nrmS w := by
  funext k i
  unfold nrmS
  by_cases e : k < 35
  · rw [if_pos e, if_pos e, h k i e]
  · rw [if_neg e, if_neg e]
theorem S_of {α : Sort _} (F : mW → α) (hF : ∀ w, F (nrmS w) = F w) {w w' : mW} (h : sS w w') : F w' = F w := by rw [← hF w', ← hF w, nrmS_eq h]
theorem sS.refl {w : mW} : sS w w := fun _ _ _ => rfl
theorem sS.trans {w w' w'' : mW} (h : sS w w') (h' : sS w' w'') : sS w w'' := fun k i a => (h' k i a).trans (h k i a)
theorem sS.set {w w' : mW} (h : sS w w') {k : Nat} {i v : Int} (hk : 35 ≤ k) : sS w (mset w' k i v) := fun k' i' a => by rw [mset_k (by omega)]; exact h k' i' a
theorem mS_S {w w' : mW} (h : sS w w') (hS : mS w) : mS w' := by rw [S_of mS (fun _ => rfl) h]; exact hS
theorem flW_S {w w' : mW} {k m d : Int} (h : sS w w') : sS w (flW w' k m d) := (((h.set (by omega)).set (by omega)).set (by omega)).set (by omega)
theorem cmW_S {w w' : mW} {t b : Int} (h : sS w w') : sS w (cmW w' t b) := (h.set (by omega)).set (by omega)
def w32 (z : Int) : Int := (iI z).toInt
def w64 (z : Int) : Int := (lI z).toInt

set_option maxRecDepth 100000 in
theorem k7_begins {l : Launch} {θ : zTh} {N : zMap} {am : Nat} {ar : Nat → Nat} {w : mW} (hD : mDis am ar) (hw : mWF w) (m : Int) (it : Bool) (r_m : inR m) (hS : mS w) (hm : 0 ≤ m ∧ m < w 11 0) (ho : 0 ≤ w 45 0 ∧ w 45 0 ≤ 12) (hs : vrB w m it = true → 0 ≤ w 48 0 ∧ w 48 0 < w 27 0) : ZF θ l yX7_begins cX7_begins 4 (some .int) ⟨4, 0, 0, 92⟩ [.ref (am), .int (iI (m)), .int (iI (bI (it)))] (mP θ am ar w N) (some (.int (iI (beI w m it)))) (mP θ am ar (beW w m it) N) := by
  refine z_start (own := RX7) (nm := "begins") pnX7 rfl rfl (Nat.le_of_ble_eq_true rfl) ?_
  intro κ hκ hκl C
  change Z κ (mP θ am ar w N) 0 0 0 [(0, .ref (am)), (1, .int (iI (m))), (2, .int (iI (bI (it))))] []
  have hB := hS.B
  obtain ⟨hB1, hB2, hB3, hB4, hB5, hB6⟩ := hS.B
  have hC := hS.C
  refine z_aload_n C 1 0 dX7_begins_0 rfl rfl ?_
  refine m_geti C hκ 4 45 (by decide) rfl q2040 rfl dX7_begins_1 rfl ?_
  refine z_bipush C 6 dX7_begins_4 (by decide) rfl ?_
  refine z_icmp_ne C 22 9 dX7_begins_6 (by decide) (hw.r _ _ rfl) ⟨by decide, by decide⟩ rfl (fun c1 => ?_) (fun c1 => ?_)
  · skip
    refine z_iload_n C 23 2 dX7_begins_22 rfl rfl ?_
    refine z_ifB_ne C 43 26 dX7_begins_23 (by decide) rfl (fun c2 => ?_) (fun c2 => ?_)
    · skip
      refine z_iload_n C 44 1 dX7_begins_43 rfl rfl ?_
      exact z_iret C dX7_begins_44 rfl (Nat.le_of_ble_eq_true rfl) (Nat.le_of_ble_eq_true rfl) ⟨congrArg (fun z => some (Value.int (iI z))) (by clear C hκ hκl hS hB hB1 hB2 hB3 hB4 hB5 hB6 hC hD hw; unfold beI vrB; first | (simp_all; done) | grind), (congrArg (fun w' => mP θ am ar w' N) (by clear C hκ hκl hS hB hB1 hB2 hB3 hB4 hB5 hB6 hC hD hw; unfold beW vrB; first | (simp_all; done) | grind))⟩
    · skip
      refine z_aload_n C 27 0 dX7_begins_26 rfl rfl ?_
      refine z_iload_n C 28 1 dX7_begins_27 rfl rfl ?_
      refine z_iconst C 29 dX7_begins_28 rfl ?_
      refine z_callVF (n' := 0) (k' := 0) (As := [.int (iI (m)), .int (iI (4))]) (rest := []) C hκ hκl 32 (k7_has hD hw (m) (4) r_m ⟨by decide, by decide⟩ (by omega)) dX7_begins_29 q2271 q2273 qs53 q97 q2274 znX7_has (Nat.le_of_ble_eq_true rfl) (Nat.le_of_ble_eq_true rfl) (Nat.le_of_ble_eq_true rfl) (Nat.le_of_ble_eq_true rfl) mrec rfl rfl (Nat.le_of_ble_eq_true rfl) rfl rfl rfl ?_
      refine z_ifB_ne C 43 35 dX7_begins_32 (by decide) rfl (fun c3 => ?_) (fun c3 => ?_)
      · skip
        refine z_iload_n C 44 1 dX7_begins_43 rfl rfl ?_
        exact z_iret C dX7_begins_44 rfl (Nat.le_of_ble_eq_true rfl) (Nat.le_of_ble_eq_true rfl) ⟨congrArg (fun z => some (Value.int (iI z))) (by clear C hκ hκl hS hB hB1 hB2 hB3 hB4 hB5 hB6 hC hD hw; unfold beI vrB; first | (simp_all; done) | grind), (congrArg (fun w' => mP θ am ar w' N) (by clear C hκ hκl hS hB hB1 hB2 hB3 hB4 hB5 hB6 hC hD hw; unfold beW vrB; first | (simp_all; done) | grind))⟩
      · skip
        refine z_aload_n C 36 0 dX7_begins_35 rfl rfl ?_
        refine z_iload_n C 37 1 dX7_begins_36 rfl rfl ?_
        refine z_callVF (n' := 0) (k' := 0) (As := [.int (iI (m))]) (rest := []) C hκ hκl 40 (k7_isPrivate hD hw (m) r_m (by omega)) dX7_begins_37 q2275 q2277 qs54 q97 q2278 znX7_isPrivate (Nat.le_of_ble_eq_true rfl) (Nat.le_of_ble_eq_true rfl) (Nat.le_of_ble_eq_true rfl) (Nat.le_of_ble_eq_true rfl) mrec rfl rfl (Nat.le_of_ble_eq_true rfl) rfl rfl rfl ?_
        refine z_ifB_eq C 45 43 dX7_begins_40 (by decide) rfl (fun c4 => ?_) (fun c4 => ?_)
        · skip
          have c4b : ¬ (whoI w (m) = 2) := of_decide_eq_false c4
          have hv : vrB w m it = true := by clear C hκ hκl; unfold vrB; first | (simp_all; done) | grind
          have hsv := hs hv
          have hx := (hS.X hsv.1 hsv.2).1
          refine z_aload_n C 46 0 dX7_begins_45 rfl rfl ?_
          refine z_aload_n C 47 0 dX7_begins_46 rfl rfl ?_
          refine m_geta C hκ 50 28 (by decide) rfl q2023 rfl dX7_begins_47 rfl ?_
          refine z_aload_n C 51 0 dX7_begins_50 rfl rfl ?_
          refine m_geti C hκ 54 48 (by decide) rfl q2043 rfl dX7_begins_51 rfl ?_
          obtain ⟨f5a, f5b, f5c⟩ := hS.X (show 0 ≤ w 48 0 by omega) (by omega)
          refine m_iald (len := 80) C hκ hD 55 28 (by decide) rfl rfl (by omega) (by omega) dX7_begins_54 rfl ?_
          refine z_iload_n C 56 1 dX7_begins_55 rfl rfl ?_
          refine z_callVF (n' := 0) (k' := 0) (As := [.int (iI (w 28 (w 48 0))), .int (iI (m))]) (rest := []) C hκ hκl 59 (k7_force hD hw (w 28 (w 48 0)) (m) (hw.r _ _ rfl) r_m hS (by omega) (by omega)) dX7_begins_56 q2320 q2322 qs62 q97 q2323 znX7_force (Nat.le_of_ble_eq_true rfl) (Nat.le_of_ble_eq_true rfl) (Nat.le_of_ble_eq_true rfl) (Nat.le_of_ble_eq_true rfl) mrec rfl rfl (Nat.le_of_ble_eq_true rfl) rfl rfl rfl ?_
          have h6 := foI_r (w := w) (t := w 28 (w 48 0)) (m := m) (by omega)
          refine z_istore_n (lv' := [(0, .ref (am)), (1, .int (iI (m))), (2, .int (iI (bI (it)))), (3, .int (iI (foI w (w 28 (w 48 0)) (m))))]) C 60 [1, 2, 3, 0] dX7_begins_59 (by decide) rfl rfl ?_
          refine z_iload_n C 61 3 dX7_begins_60 rfl rfl ?_
          refine z_iconst C 62 dX7_begins_61 rfl ?_
          refine z_icmp_ne C 76 65 dX7_begins_62 (by decide) ⟨by omega, by omega⟩ ⟨by decide, by decide⟩ rfl (fun c7 => ?_) (fun c7 => ?_)
          · skip
            refine z_iload_n C 77 3 dX7_begins_76 rfl rfl ?_
            exact z_iret C dX7_begins_77 rfl (Nat.le_of_ble_eq_true rfl) (Nat.le_of_ble_eq_true rfl) ⟨congrArg (fun z => some (Value.int (iI z))) (by unfold beI; rw [if_neg (by omega), if_pos hv]), (congrArg (fun w' => mP θ am ar w' N) (by unfold beW; rw [if_neg (by omega), if_neg (by rw [hv]; simp; omega)]))⟩
          · skip
            refine z_aload_n C 66 0 dX7_begins_65 rfl rfl ?_
            refine z_bipush C 68 dX7_begins_66 (by decide) rfl ?_
            refine z_iload_n C 69 1 dX7_begins_68 rfl rfl ?_
            refine z_aload_n C 70 0 dX7_begins_69 rfl rfl ?_
            refine m_geti C hκ 73 45 (by decide) rfl q2040 rfl dX7_begins_70 rfl ?_
            refine z_callVF0 (n' := 0) (k' := 0) (As := [.int (iI (7)), .int (iI (m)), .int (iI (w 45 0))]) (rest := []) C hκ hκl 76 (k7_fails hD hw (7) (m) (w 45 0) ⟨by decide, by decide⟩ r_m (hw.r _ _ rfl)) dX7_begins_73 q2532 q2534 qs83 q97 q2535 znX7_fails (Nat.le_of_ble_eq_true rfl) (Nat.le_of_ble_eq_true rfl) (Nat.le_of_ble_eq_true rfl) (Nat.le_of_ble_eq_true rfl) mrec rfl rfl (Nat.le_of_ble_eq_true rfl) rfl rfl rfl ?_
            obtain ⟨w1, ew1⟩ : ∃ wz, (mset (mset (mset (mset w 51 0 (7)) 37 0 (7)) 38 0 (m)) 39 0 (w 45 0)) = wz := ⟨_, rfl⟩
            rw [ew1]
            have hw1 : mWF w1 := ew1 ▸ ((((hw.set ⟨by decide, by decide⟩ rfl).set ⟨by decide, by decide⟩ rfl).set r_m rfl).set (hw.r _ _ rfl) rfl)
            refine z_iload_n C 77 3 dX7_begins_76 rfl rfl ?_
            exact z_iret C dX7_begins_77 rfl (Nat.le_of_ble_eq_true rfl) (Nat.le_of_ble_eq_true rfl) ⟨congrArg (fun z => some (Value.int (iI z))) (by unfold beI; rw [if_neg (by omega), if_pos hv]), (congrArg (fun w' => mP θ am ar w' N) (by unfold beW flW; rw [if_neg (by omega), if_pos (by rw [hv]; simp; omega)]; subst_vars; rfl))⟩
        · skip
          have c4b : (whoI w (m) = 2) := of_decide_eq_true c4
          refine z_iload_n C 44 1 dX7_begins_43 rfl rfl ?_
          exact z_iret C dX7_begins_44 rfl (Nat.le_of_ble_eq_true rfl) (Nat.le_of_ble_eq_true rfl) ⟨congrArg (fun z => some (Value.int (iI z))) (by clear C hκ hκl hS hB hB1 hB2 hB3 hB4 hB5 hB6 hC hD hw; unfold beI vrB; first | (simp_all; done) | grind), (congrArg (fun w' => mP θ am ar w' N) (by clear C hκ hκl hS hB hB1 hB2 hB3 hB4 hB5 hB6 hC hD hw; unfold beW vrB; first | (simp_all; done) | grind))⟩
  · skip
    refine z_aload_n C 10 0 dX7_begins_9 rfl rfl ?_
    refine z_bipush C 12 dX7_begins_10 (by decide) rfl ?_
    refine z_iload_n C 13 1 dX7_begins_12 rfl rfl ?_
    refine z_aload_n C 14 0 dX7_begins_13 rfl rfl ?_
    refine m_geti C hκ 17 45 (by decide) rfl q2040 rfl dX7_begins_14 rfl ?_
    refine z_callVF0 (n' := 0) (k' := 0) (As := [.int (iI (10)), .int (iI (m)), .int (iI (w 45 0))]) (rest := []) C hκ hκl 20 (k7_fails hD hw (10) (m) (w 45 0) ⟨by decide, by decide⟩ r_m (hw.r _ _ rfl)) dX7_begins_17 q2532 q2534 qs83 q97 q2535 znX7_fails (Nat.le_of_ble_eq_true rfl) (Nat.le_of_ble_eq_true rfl) (Nat.le_of_ble_eq_true rfl) (Nat.le_of_ble_eq_true rfl) mrec rfl rfl (Nat.le_of_ble_eq_true rfl) rfl rfl rfl ?_
    obtain ⟨w2, ew2⟩ : ∃ wz, (mset (mset (mset (mset w 51 0 (10)) 37 0 (10)) 38 0 (m)) 39 0 (w 45 0)) = wz := ⟨_, rfl⟩
    rw [ew2]
    have hw2 : mWF w2 := ew2 ▸ ((((hw.set ⟨by decide, by decide⟩ rfl).set ⟨by decide, by decide⟩ rfl).set r_m rfl).set (hw.r _ _ rfl) rfl)
    refine z_iconst C 21 dX7_begins_20 rfl ?_
    exact z_iret C dX7_begins_21 rfl (Nat.le_of_ble_eq_true rfl) (Nat.le_of_ble_eq_true rfl) ⟨congrArg (fun z => some (Value.int (iI z))) (by unfold beI; rw [if_pos (by omega)]), (congrArg (fun w' => mP θ am ar w' N) (by unfold beW flW; rw [if_pos (by omega)]; subst_vars; rfl))⟩
