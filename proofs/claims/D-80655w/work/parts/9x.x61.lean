/-! ===== bodies at work: Adding ===== -/
theorem top_p : (9218868437227405312 : UInt64) = fZ false fTop := by unfold fZ; rw [if_pos rfl]; decide +kernel
theorem top_n : (18442240474082181120 : UInt64) = fZ true fTop := by unfold fZ; rw [if_pos rfl]; decide +kernel
theorem fZ_inf {s u : Bool} {n : Nat} (hn : fR n) : fZ s n = infB u ↔ s = u ∧ n = fTop := by
  have h1 := fMx_top
  have h2 : n = fTop ∨ n ≤ fMx := hn.imp id fRep_le
  cases u
  · rw [← infp hn]; unfold sg; cases s <;> simp <;> omega
  · rw [← infn hn]; unfold sg; cases s <;> simp <;> omega
theorem adN_iff {s t : Bool} {n m : Nat} (hn : fR n) (hm : fR m) : adN (fZ s n) (fZ t m) = true ↔ n = fTop ∧ m = fTop ∧ s ≠ t := by
  unfold adN
  rw [Bool.or_eq_true, Bool.and_eq_true, Bool.and_eq_true, decide_eq_true_eq, decide_eq_true_eq, decide_eq_true_eq, decide_eq_true_eq, fZ_inf hn, fZ_inf hn, fZ_inf hm, fZ_inf hm]
  constructor
  · rintro (⟨⟨rfl, h1⟩, rfl, h2⟩ | ⟨⟨rfl, h1⟩, rfl, h2⟩)
    · exact ⟨h1, h2, by decide⟩
    · exact ⟨h1, h2, by decide⟩
  · rintro ⟨h1, h2, h3⟩
    cases s <;> cases t
    · exact absurd rfl h3
    · exact Or.inl ⟨⟨rfl, h1⟩, rfl, h2⟩
    · exact Or.inr ⟨⟨rfl, h1⟩, rfl, h2⟩
    · exact absurd rfl h3
theorem end_y {s : Bool} {n : Nat} (h : sg s n = sg false fTop ∨ sg s n = sg true fTop) : decide (n = fTop) = true := by
  have h1 := fTop_pos
  apply decide_eq_true
  unfold sg at h
  cases s <;> simp at h <;> omega
theorem end_n {s : Bool} {n : Nat} (h : ¬ sg s n = sg false fTop) (h2 : ¬ sg s n = sg true fTop) : decide (n = fTop) = false := by
  apply decide_eq_false
  intro e
  cases s
  · exact h (by rw [e])
  · exact h2 (by rw [e])
/-- what is asked of two doubles before they are added -/
theorem adN_no1 {s t : Bool} {n m : Nat} (hn : fR n) (hm : fR m) (h : ¬ sg s n = sg (!t) m) : adN (fZ s n) (fZ t m) = false := by
  apply Bool.eq_false_iff.mpr
  intro z
  obtain ⟨h1, h2, h3⟩ := (adN_iff hn hm).mp z
  have e : s = !t := by cases s <;> cases t <;> simp at h3 ⊢
  apply h
  rw [h1, h2, e]
theorem adN_no2 {s t : Bool} {n m : Nat} (hn : fR n) (hm : fR m) (h : sg s n = sg t m) : adN (fZ s n) (fZ t m) = false := by
  apply Bool.eq_false_iff.mpr
  intro z
  obtain ⟨h1, h2, h3⟩ := (adN_iff hn hm).mp z
  have h4 := fTop_pos
  rw [h1, h2] at h
  unfold sg at h
  cases s <;> cases t <;> simp at h h3 <;> omega
theorem adN_no3 {s t : Bool} {n m : Nat} (hn : fR n) (hm : fR m) (h : decide (n = fTop) = false) : adN (fZ s n) (fZ t m) = false := by
  apply Bool.eq_false_iff.mpr
  intro z
  exact of_decide_eq_false h ((adN_iff hn hm).mp z).1
theorem adN_yes {s t : Bool} {n m : Nat} (hn : fR n) (hm : fR m) (h1 : sg s n = sg (!t) m) (h2 : ¬ sg s n = sg t m) (h3 : decide (n = fTop) = true) : adN (fZ s n) (fZ t m) = true := by
  have e := of_decide_eq_true h3
  have h4 := fTop_pos
  have em : m = fTop := by
    unfold sg at h1
    rw [e] at h1
    cases s <;> cases t <;> simp at h1 <;> omega
  exact (adN_iff hn hm).mpr ⟨e, em, fun e3 => h2 (by rw [e, em, e3])⟩
theorem rl_U {t x : Int} (h : t = 6 ∨ t = 7) : rlD t x = adU t x := by
  unfold rlD adU
  rcases h with rfl | rfl
  · rw [if_neg (by decide), if_pos rfl, if_pos rfl]
  · rw [if_pos rfl, if_neg (by decide)]
theorem fadd_adV {x y : Int} (hx : vf_n32 (U32 x)) (hy : vf_n32 (U32 y)) (h : adN (adU 6 x) (adU 6 y) = false) : FP.fadd (U32 x) (U32 y) = FP.d2f (FP.dadd (adU 6 x) (adU 6 y)) := by
  unfold adU at h ⊢
  rw [if_pos rfl, if_pos rfl] at h ⊢
  refine fadd_dd hx hy fun h9 => ?_
  rcases h9 with ⟨e1, e2⟩ | ⟨e1, e2⟩ <;> rw [e1, e2, f2d_inf, f2d_inf] at h <;> exact absurd h (by decide +kernel)
theorem nu_nm {a p t : Int} (hp : p ≤ t) (h : nuB p a) : nmOk t (wdL a p t) := ⟨fun e => by subst e; exact wd7 hp h, fun e => by subst e; exact wd6 hp h⟩
theorem adV_nm {t x y : Int} (h : t = 6 ∨ t = 7 → vf_n64 (FP.dadd (adU t x) (adU t y))) : nmOk t (adV t x y) := by
  unfold adV
  refine ⟨fun e => ?_, fun e => ?_⟩
  · rw [if_neg (by omega), if_neg (by omega), if_neg (by omega)]; exact sI_ok (h (Or.inr e))
  · rw [if_neg (by omega), if_neg (by omega), if_pos e]; exact ⟨sJ_R _, sJ_ok (d2f_vg (h (Or.inl e)))⟩

section ZFA
variable {κ : zK} {own nm : String} {cc : ByteArray} {nL : Nat} {ret : Option FieldType} {rm : Room} {P : Option Value → (Heap → Prop) → Prop} {Pic : Heap → Prop} {n k pc : Nat} {lv : List (Nat × Value)} {st rest : List Value}
theorem z_faddE (C : ZC κ own nm cc nL ret rm P) {x y v : UInt32} (q : Nat) (d : decode cc pc = .ok (.fadd, 1)) (h : FP.fadd x y = v) (hn : vf_n32 v) (hq : pc + 1 = q) (kk : Z κ Pic n k q lv (.float v :: rest)) : Z κ Pic n k pc lv (.float y :: .float x :: rest) := by subst h; exact z_fadd C q d hn hq kk
end ZFA
set_option maxRecDepth 100000 in
theorem k17_isEndless_17 {l : Launch} {θ : zTh} {σ : xA} {w : mW} {M N : zMap} (hX : xM θ σ w (xL w) M) (hs : xS w) (hw : mWF w) (hT : zTb θ) (b : Nat) (m : Int) (x : Int) (y : Int) (s1 : Bool) (n1 : Nat)  (hb : M b = some (.inr (17, [.ref (σ 20 (m)), .ref (σ 0 (0)), .int (iI (x)), .ref (σ 0 (0)), .int (iI (y)), .ref (σ 0 (0))]))) (hm : 0 ≤ m ∧ m < w 11 0) (r_x : inR x) (r_y : inR y) (hr1 : fR n1) : ZM θ l yX17_isEndless cX17_isEndless 3 (some .boolean) ⟨0, 0, 0, 0⟩ [.ref (b), .double (fZ s1 n1)] (zP θ M N) (zFn (some (.int (iI (bI (decide (n1 = fTop)))))) (zP θ M N)) := by
  refine z_start (own := RX17) (nm := "isEndless") pnX17 rfl rfl (Nat.le_of_ble_eq_true rfl) ?_
  intro κ hκ hκl C
  change Z κ (zP θ M N) 0 0 0 [(0, .ref (b)), (1, .double (fZ s1 n1))] []
  have hS := hs.S
  have hB := hS.B
  obtain ⟨hB1, hB2, hB3, hB4, hB5, hB6⟩ := hS.B
  have hC := hS.C
  obtain ⟨h81, h82⟩ := hs.r8
  obtain ⟨f1a, f1b, f1c, f1d⟩ := hS.M (show 0 ≤ m by omega) (by omega)
  refine z_dload_n C 1 1 dX17_isEndless_0 rfl rfl ?_
  refine z_ldc2d C 4 dX17_isEndless_1 q1807 rfl ?_
  rw [show (.double (9218868437227405312) : Value) = .double (fZ false fTop) from congrArg Value.double top_p]
  refine z_dcmp (a := sg s1 n1) (b := sg false fTop) C 5 dX17_isEndless_4 (fcmp hr1 (Or.inl rfl)) rfl ?_
  refine z_ifC_eq C 16 8 dX17_isEndless_5 (by decide) rfl (fun c2 => ?_) (fun c2 => ?_)
  · skip
    refine z_iconst C 17 dX17_isEndless_16 rfl ?_
    refine z_goto C 21 dX17_isEndless_17 (by decide) ?_
    refine z_as (st' := [.int (iI (bI (true)))]) rfl rfl rfl ?_
    exact z_iret C dX17_isEndless_21 (bI_nar _) (Nat.le_of_ble_eq_true rfl) (Nat.le_of_ble_eq_true rfl) ⟨congrArg (fun b => some (Value.int (iI (bI b)))) (by first | exact (end_y (Or.inl (by assumption))).symm | exact (end_y (Or.inr (by assumption))).symm | exact (end_n (by assumption) (by assumption)).symm | exact end_y (Or.inl (by assumption)) | exact end_y (Or.inr (by assumption)) | exact end_n (by assumption) (by assumption)), rfl⟩
  · skip
    refine z_dload_n C 9 1 dX17_isEndless_8 rfl rfl ?_
    refine z_ldc2d C 12 dX17_isEndless_9 q1808 rfl ?_
    rw [show (.double (18442240474082181120) : Value) = .double (fZ true fTop) from congrArg Value.double top_n]
    refine z_dcmp (a := sg s1 n1) (b := sg true fTop) C 13 dX17_isEndless_12 (fcmp hr1 (Or.inl rfl)) rfl ?_
    refine z_ifC_ne C 20 16 dX17_isEndless_13 (by decide) rfl (fun c3 => ?_) (fun c3 => ?_)
    · skip
      refine z_iconst C 21 dX17_isEndless_20 rfl ?_
      refine z_as (st' := [.int (iI (bI (false)))]) rfl rfl rfl ?_
      exact z_iret C dX17_isEndless_21 (bI_nar _) (Nat.le_of_ble_eq_true rfl) (Nat.le_of_ble_eq_true rfl) ⟨congrArg (fun b => some (Value.int (iI (bI b)))) (by first | exact (end_y (Or.inl (by assumption))).symm | exact (end_y (Or.inr (by assumption))).symm | exact (end_n (by assumption) (by assumption)).symm | exact end_y (Or.inl (by assumption)) | exact end_y (Or.inr (by assumption)) | exact end_n (by assumption) (by assumption)), rfl⟩
    · skip
      refine z_iconst C 17 dX17_isEndless_16 rfl ?_
      refine z_goto C 21 dX17_isEndless_17 (by decide) ?_
      refine z_as (st' := [.int (iI (bI (true)))]) rfl rfl rfl ?_
      exact z_iret C dX17_isEndless_21 (bI_nar _) (Nat.le_of_ble_eq_true rfl) (Nat.le_of_ble_eq_true rfl) ⟨congrArg (fun b => some (Value.int (iI (bI b)))) (by first | exact (end_y (Or.inl (by assumption))).symm | exact (end_y (Or.inr (by assumption))).symm | exact (end_n (by assumption) (by assumption)).symm | exact end_y (Or.inl (by assumption)) | exact end_y (Or.inr (by assumption)) | exact end_n (by assumption) (by assumption)), rfl⟩
set_option maxRecDepth 100000 in
theorem k17_work_17 {l : Launch} {θ : zTh} {σ : xA} {w : mW} {M N : zMap} (hX : xM θ σ w (xL w) M) (hs : xS w) (hw : mWF w) (hT : zTb θ) (hZ : zTx θ l) (b : Nat) (m : Int) (x : Int) (y : Int) (fr : Nat) (xs : Int) (ar : Nat) (out : Nat) (dp : Int) (k1 : Int) (b1 : Int) (t1 : Option Nat) (av : Int → Int)  (hb : M b = some (.inr (17, [.ref (σ 20 (m)), .ref (σ 0 (0)), .int (iI (x)), .ref (σ 0 (0)), .int (iI (y)), .ref (σ 0 (0))]))) (hm : 0 ≤ m ∧ m < w 11 0) (r_x : inR x) (r_y : inR y) (r_dp : inR dp) (hFr : M fr = some (.inr (26, [va_rf (xo σ 30 (xs)), .ref (ar), .ref (out), .int (iI (dp))]))) (hO : M out = some (.inr (6, [.int (iI (k1)), .long (lI (b1)), va_rf (t1)]))) (hOf : xFr σ w (xL w) out) (hxs : -1 ≤ xs ∧ xs < w 27 0) (hipx : 0 ≤ x ∧ x < w 18 m) (hipy : 0 ≤ y ∧ y < w 18 m) (hx1 : 1 ≤ xpI w m x ∧ xpI w m x ≤ 7) (hy1 : 1 ≤ xpI w m y ∧ xpI w m y ≤ 7) (hA : xArg σ w θ m av M ar out) (hAL : ∀ j, inL (av j)) : zMX θ l yX17_work (ws_ yX17_work cX17_work 9 none) ⟨5, 8, 60, 131⟩ [.ref (b), .ref (fr)] (zP θ M N) (fun v9 Q9 => v9 = none ∧ adB (suI (xpI w m x) (xpI w m y)) (wdL (av x) (w 19 (3 * m + x)) (suI (xpI w m x) (xpI w m y))) (wdL (av y) (w 19 (3 * m + y)) (suI (xpI w m x) (xpI w m y))) = false ∧ ∃ M' : zMap, Q9 = zP θ M' N ∧ xM θ σ w (xL w) M' ∧ M' out = some (.inr (6, [.int (iI (gvK (w 17 m) (suI (xpI w m x) (xpI w m y)) (suI (xpI w m x) (xpI w m y)))), .long (lI (gvB (w 17 m) (suI (xpI w m x) (xpI w m y)) (suI (xpI w m x) (xpI w m y)) (adV (suI (xpI w m x) (xpI w m y)) (wdL (av x) (w 19 (3 * m + x)) (suI (xpI w m x) (xpI w m y))) (wdL (av y) (w 19 (3 * m + y)) (suI (xpI w m x) (xpI w m y)))))), va_rf (gvT (w 17 m) (suI (xpI w m x) (xpI w m y)) (cT σ (w 19 (3 * m + x)) (av x)))])) ∧ xKp σ w out M M') (fun E9 b9 Q9 => ∃ (M' : zMap) (c9 : Int), Q9 = zP θ M' N ∧ xM θ σ w (xL w) M' ∧ (c9 = 2 ∧ adB (suI (xpI w m x) (xpI w m y)) (wdL (av x) (w 19 (3 * m + x)) (suI (xpI w m x) (xpI w m y))) (wdL (av y) (w 19 (3 * m + y)) (suI (xpI w m x) (xpI w m y))) = true) ∧ c9 ≠ 0 ∧ xEx M' b9 E9 c9 ∧ xKp σ w out M M') := by
  refine zx_start (own := RX17) (nm := "work") pnX17 rfl rfl (Nat.le_of_ble_eq_true rfl) ?_
  intro κ hκ hκl C XX
  change Z κ (zP θ M N) 0 0 0 [(0, .ref (b)), (1, .ref (fr))] []
  have hS := hs.S
  have hB := hS.B
  obtain ⟨hB1, hB2, hB3, hB4, hB5, hB6⟩ := hS.B
  have hC := hS.C
  obtain ⟨h81, h82⟩ := hs.r8
  obtain ⟨f1a, f1b, f1c, f1d⟩ := hS.M (show 0 ≤ m by omega) (by omega)
  obtain ⟨g9, hg9, hA9⟩ := hA
  have ne2 : b ≠ out := fun z9 => by have z8 := hb; rw [z9, hO] at z8; cases z8
  have ne3 : fr ≠ out := fun z9 => by have z8 := hFr; rw [z9, hO] at z8; cases z8
  have ne4 : ar ≠ out := fun z9 => by have z8 := hg9; rw [z9, hO] at z8; cases z8
  have fx09 : zFx out M M := zFx.rf
  have k17 : -1 ≤ w 17 m := by omega
  have hxp9 : xpI w m x = w 19 (3 * m + x) := xpI_y (by unfold ipB; exact decide_eq_true hipx)
  have hyp9 : xpI w m y = w 19 (3 * m + y) := xpI_y (by unfold ipB; exact decide_eq_true hipy)
  have hsu := suI_r hx1 hy1
  have hex9 : ((x.toNat : Nat) : Int) = x := by omega
  obtain ⟨cx9, hgx9, hnx9, hcx9, hagx9⟩ := hA9 x.toNat (by omega)
  rw [hex9] at hcx9 hagx9
  have hprx9 := (hS.M hm.1 hm.2).2.2.2 x (by omega) (by omega)
  have hkcx9 := cK_r (t := w 19 (3 * m + x)) (by omega)
  have hbcx9 : inL (cB (w 19 (3 * m + x)) (av x)) := cB_L (hAL _)
  have hftx9 : ftB w (w 19 (3 * m + x)) (av x) = true := by unfold agB at hagx9; rw [Bool.and_eq_true] at hagx9; exact hagx9.1
  have hnmx9 : nmOk (cK (w 19 (3 * m + x))) (cB (w 19 (3 * m + x)) (av x)) := cK_nm (by omega) (hAL _) hftx9
  have hey9 : ((y.toNat : Nat) : Int) = y := by omega
  obtain ⟨cy9, hgy9, hny9, hcy9, hagy9⟩ := hA9 y.toNat (by omega)
  rw [hey9] at hcy9 hagy9
  have hpry9 := (hS.M hm.1 hm.2).2.2.2 y (by omega) (by omega)
  have hkcy9 := cK_r (t := w 19 (3 * m + y)) (by omega)
  have hbcy9 : inL (cB (w 19 (3 * m + y)) (av y)) := cB_L (hAL _)
  have hfty9 : ftB w (w 19 (3 * m + y)) (av y) = true := by unfold agB at hagy9; rw [Bool.and_eq_true] at hagy9; exact hagy9.1
  have hnmy9 : nmOk (cK (w 19 (3 * m + y))) (cB (w 19 (3 * m + y)) (av y)) := cK_nm (by omega) (hAL _) hfty9
  refine z_aload_n C 1 0 dX17_work_0 rfl rfl ?_
  refine z_callV (As := []) (rest := []) C hκ hκl 4 (k17_type_17 hX hs hw hT (b) (m) (x) (y) hb ⟨by omega, by omega⟩ r_x r_y ⟨by omega, by omega⟩ ⟨by omega, by omega⟩) dX17_work_1 q1797 q1117 q2585 q111 q1118 znX17_type (Nat.le_of_ble_eq_true rfl) (Nat.le_of_ble_eq_true rfl) (Nat.le_of_ble_eq_true rfl) (Nat.le_of_ble_eq_true rfl) (zrec_P hb) rfl rfl (Nat.le_of_ble_eq_true rfl) rfl (fun v9 Q9 h9 => ?_)
  obtain ⟨rfl, rfl⟩ := h9
  refine z_as (st' := [.ref (σ 10 (suI (xpI w (m) (x)) (xpI w (m) (y))))]) rfl rfl rfl ?_
  obtain ⟨f5a, f5b, f5c, f5d, f5e, f5f, f5g, f5h⟩ := hS.T (show 0 ≤ suI (xpI w (m) (x)) (xpI w (m) (y)) by omega) (by omega)
  obtain ⟨f5i, f5j, f5k, f5l⟩ := hs.ty (show 0 ≤ suI (xpI w (m) (x)) (xpI w (m) (y)) by omega) (by omega)
  refine xv_number (rest := []) C hκ hκl hX hs hw hT (suI (xpI w (m) (x)) (xpI w (m) (y)))   ⟨(by omega), (by omega)⟩  7 dX17_work_4 q1057 (Nat.le_of_ble_eq_true rfl) (Nat.le_of_ble_eq_true rfl) (Nat.le_of_ble_eq_true rfl) (Nat.le_of_ble_eq_true rfl) (Nat.le_of_ble_eq_true rfl) rfl ?_
  refine z_as (st' := [.int (iI ((suI (xpI w (m) (x)) (xpI w (m) (y)))))]) rfl rfl rfl ?_
  obtain ⟨tt, ett⟩ : ∃ z9 : Int, suI (xpI w m x) (xpI w m y) = z9 := ⟨_, rfl⟩
  rw [ett]
  rw [ett] at hsu
  have hmx9 : nmOk tt (wdL (av x) (w 19 (3 * m + x)) tt) := nu_nm (by omega) (ft_nu hftx9)
  have hmy9 : nmOk tt (wdL (av y) (w 19 (3 * m + y)) tt) := nu_nm (by omega) (ft_nu hfty9)
  have hLx9 : inL (wdL (av x) (w 19 (3 * m + x)) tt) := wdL_L (hAL _)
  have hLy9 : inL (wdL (av y) (w 19 (3 * m + y)) tt) := wdL_L (hAL _)
  refine z_istore_n (lv' := [(0, .ref (b)), (1, .ref (fr)), (2, .int (iI (tt)))]) C 8 [1, 2, 0] dX17_work_7 (by decide) rfl rfl ?_
  refine z_new (fs := [.int (iI (0)), .long (lI (0)), .null]) C hκ 11 zk_X6 q1798 q241 q96 (fun j9 h9 => match j9, h9 with | 0, _ => rfl | 1, _ => rfl | 2, _ => rfl | (j9 + 3), h9 => absurd h9 (by omega)) (Nat.le_of_ble_eq_true rfl) (Nat.le_of_ble_eq_true rfl) dX17_work_8 rfl (fun a6 a6M a6N => ?_)
  refine z_widen (n' := 1) (k' := 3) (Nat.le_refl _) (Nat.le_refl _) ?_
  have ne7 : b ≠ a6 := fun z9 => by have z8 := hb; rw [z9, a6M] at z8; cases z8
  have ne8 : fr ≠ a6 := fun z9 => by have z8 := hFr; rw [z9, a6M] at z8; cases z8
  have ne9 : out ≠ a6 := fun z9 => by have z8 := hO; rw [z9, a6M] at z8; cases z8
  have ne10 : cx9 ≠ a6 := fun z9 => by have z8 := hcx9; rw [z9, a6M] at z8; cases z8
  have ne11 : cy9 ≠ a6 := fun z9 => by have z8 := hcy9; rw [z9, a6M] at z8; cases z8
  have ne12 : ar ≠ a6 := fun z9 => by have z8 := hg9; rw [z9, a6M] at z8; cases z8
  have fr13 : xFr σ w (xL w) a6 := hX.fr a6M
  have no14 : M a6 = none := fx09.no a6M (fun z9 => ne9 z9.symm)
  obtain ⟨M1, eM1⟩ : ∃ z9 : zMap, zup M a6 (.inr (6, [.int (iI (0)), .long (lI (0)), .null]) : va_E) = z9 := ⟨_, rfl⟩
  rw [eM1]
  have o15 : M1 b = some (.inr (17, [.ref (σ 20 (m)), .ref (σ 0 (0)), .int (iI (x)), .ref (σ 0 (0)), .int (iI (y)), .ref (σ 0 (0))])) := eM1 ▸ (zup_n ne7).trans hb
  have o16 : M1 fr = some (.inr (26, [va_rf (xo σ 30 (xs)), .ref (ar), .ref (out), .int (iI (dp))])) := eM1 ▸ (zup_n ne8).trans hFr
  have o17 : M1 out = some (.inr (6, [.int (iI (k1)), .long (lI (b1)), va_rf (t1)])) := eM1 ▸ (zup_n ne9).trans hO
  have o18 : M1 cx9 = some (.inr (6, [.int (iI (cK (w 19 (3 * m + x)))), .long (lI (cB (w 19 (3 * m + x)) (av x))), va_rf (cT σ (w 19 (3 * m + x)) (av x))])) := eM1 ▸ (zup_n ne10).trans hcx9
  have o19 : M1 cy9 = some (.inr (6, [.int (iI (cK (w 19 (3 * m + y)))), .long (lI (cB (w 19 (3 * m + y)) (av y))), va_rf (cT σ (w 19 (3 * m + y)) (av y))])) := eM1 ▸ (zup_n ne11).trans hcy9
  have o20 : M1 ar = some (.inl (θ.2.1 11, 3, xQ g9)) := eM1 ▸ (zup_n ne12).trans hg9
  have hX21 : xM θ σ w (xL w) M1 := eM1 ▸ hX.up fr13
  have fx22 : zFx out M M1 := eM1 ▸ fx09.up (Or.inl no14)
  have o23 : M1 a6 = some (.inr (6, [.int (iI (0)), .long (lI (0)), .null])) := eM1 ▸ zup_s
  refine z_dup C 12 dX17_work_11 rfl rfl ?_
  refine z_callIN (As := []) (rest := [.ref (a6)]) C hκ hκl hT 15 (k6_init_6 hT (a6) o23) dX17_work_12 q1799 q243 q96 q244 (zNd_of znX6_init) rfl (Nat.le_of_ble_eq_true rfl) (Nat.le_of_ble_eq_true rfl) (Nat.le_of_ble_eq_true rfl) (Nat.le_of_ble_eq_true rfl) rfl (Nat.le_of_ble_eq_true rfl) rfl (fun v9 Q9 h9 => ?_)
  obtain ⟨rfl, rfl⟩ := h9
  obtain ⟨M2, eM2⟩ : ∃ z9 : zMap, zup M1 a6 (.inr (6, [.int (iI (4)), .long (lI (0)), .null]) : va_E) = z9 := ⟨_, rfl⟩
  rw [eM2]
  have o24 : M2 b = some (.inr (17, [.ref (σ 20 (m)), .ref (σ 0 (0)), .int (iI (x)), .ref (σ 0 (0)), .int (iI (y)), .ref (σ 0 (0))])) := eM2 ▸ (zup_n ne7).trans o15
  have o25 : M2 fr = some (.inr (26, [va_rf (xo σ 30 (xs)), .ref (ar), .ref (out), .int (iI (dp))])) := eM2 ▸ (zup_n ne8).trans o16
  have o26 : M2 out = some (.inr (6, [.int (iI (k1)), .long (lI (b1)), va_rf (t1)])) := eM2 ▸ (zup_n ne9).trans o17
  have o27 : M2 cx9 = some (.inr (6, [.int (iI (cK (w 19 (3 * m + x)))), .long (lI (cB (w 19 (3 * m + x)) (av x))), va_rf (cT σ (w 19 (3 * m + x)) (av x))])) := eM2 ▸ (zup_n ne10).trans o18
  have o28 : M2 cy9 = some (.inr (6, [.int (iI (cK (w 19 (3 * m + y)))), .long (lI (cB (w 19 (3 * m + y)) (av y))), va_rf (cT σ (w 19 (3 * m + y)) (av y))])) := eM2 ▸ (zup_n ne11).trans o19
  have o29 : M2 ar = some (.inl (θ.2.1 11, 3, xQ g9)) := eM2 ▸ (zup_n ne12).trans o20
  have hX30 : xM θ σ w (xL w) M2 := eM2 ▸ hX21.up fr13
  have fx31 : zFx out M M2 := eM2 ▸ fx22.up (Or.inl no14)
  have o32 : M2 a6 = some (.inr (6, [.int (iI (4)), .long (lI (0)), .null])) := eM2 ▸ zup_s
  refine z_as (st' := [.ref (a6)]) rfl rfl rfl ?_
  refine z_astore_n (lv' := [(0, .ref (b)), (1, .ref (fr)), (2, .int (iI (tt))), (3, .ref (a6))]) C 16 [1, 2, 3, 0] dX17_work_15 (by decide) rfl rfl ?_
  refine z_new (fs := [.int (iI (0)), .long (lI (0)), .null]) C hκ 19 zk_X6 q1798 q241 q96 (fun j9 h9 => match j9, h9 with | 0, _ => rfl | 1, _ => rfl | 2, _ => rfl | (j9 + 3), h9 => absurd h9 (by omega)) (Nat.le_of_ble_eq_true rfl) (Nat.le_of_ble_eq_true rfl) dX17_work_16 rfl (fun a33 a33M a33N => ?_)
  refine z_widen (n' := 2) (k' := 6) (Nat.le_refl _) (Nat.le_refl _) ?_
  have ne34 : b ≠ a33 := fun z9 => by have z8 := o24; rw [z9, a33M] at z8; cases z8
  have ne35 : fr ≠ a33 := fun z9 => by have z8 := o25; rw [z9, a33M] at z8; cases z8
  have ne36 : out ≠ a33 := fun z9 => by have z8 := o26; rw [z9, a33M] at z8; cases z8
  have ne37 : cx9 ≠ a33 := fun z9 => by have z8 := o27; rw [z9, a33M] at z8; cases z8
  have ne38 : cy9 ≠ a33 := fun z9 => by have z8 := o28; rw [z9, a33M] at z8; cases z8
  have ne39 : a6 ≠ a33 := fun z9 => by have z8 := o32; rw [z9, a33M] at z8; cases z8
  have ne40 : ar ≠ a33 := fun z9 => by have z8 := o29; rw [z9, a33M] at z8; cases z8
  have fr41 : xFr σ w (xL w) a33 := hX30.fr a33M
  have no42 : M a33 = none := fx31.no a33M (fun z9 => ne36 z9.symm)
  obtain ⟨M3, eM3⟩ : ∃ z9 : zMap, zup M2 a33 (.inr (6, [.int (iI (0)), .long (lI (0)), .null]) : va_E) = z9 := ⟨_, rfl⟩
  rw [eM3]
  have o43 : M3 b = some (.inr (17, [.ref (σ 20 (m)), .ref (σ 0 (0)), .int (iI (x)), .ref (σ 0 (0)), .int (iI (y)), .ref (σ 0 (0))])) := eM3 ▸ (zup_n ne34).trans o24
  have o44 : M3 fr = some (.inr (26, [va_rf (xo σ 30 (xs)), .ref (ar), .ref (out), .int (iI (dp))])) := eM3 ▸ (zup_n ne35).trans o25
  have o45 : M3 out = some (.inr (6, [.int (iI (k1)), .long (lI (b1)), va_rf (t1)])) := eM3 ▸ (zup_n ne36).trans o26
  have o46 : M3 cx9 = some (.inr (6, [.int (iI (cK (w 19 (3 * m + x)))), .long (lI (cB (w 19 (3 * m + x)) (av x))), va_rf (cT σ (w 19 (3 * m + x)) (av x))])) := eM3 ▸ (zup_n ne37).trans o27
  have o47 : M3 cy9 = some (.inr (6, [.int (iI (cK (w 19 (3 * m + y)))), .long (lI (cB (w 19 (3 * m + y)) (av y))), va_rf (cT σ (w 19 (3 * m + y)) (av y))])) := eM3 ▸ (zup_n ne38).trans o28
  have o48 : M3 a6 = some (.inr (6, [.int (iI (4)), .long (lI (0)), .null])) := eM3 ▸ (zup_n ne39).trans o32
  have o49 : M3 ar = some (.inl (θ.2.1 11, 3, xQ g9)) := eM3 ▸ (zup_n ne40).trans o29
  have hX50 : xM θ σ w (xL w) M3 := eM3 ▸ hX30.up fr41
  have fx51 : zFx out M M3 := eM3 ▸ fx31.up (Or.inl no42)
  have o52 : M3 a33 = some (.inr (6, [.int (iI (0)), .long (lI (0)), .null])) := eM3 ▸ zup_s
  refine z_dup C 20 dX17_work_19 rfl rfl ?_
  refine z_callIN (As := []) (rest := [.ref (a33)]) C hκ hκl hT 23 (k6_init_6 hT (a33) o52) dX17_work_20 q1799 q243 q96 q244 (zNd_of znX6_init) rfl (Nat.le_of_ble_eq_true rfl) (Nat.le_of_ble_eq_true rfl) (Nat.le_of_ble_eq_true rfl) (Nat.le_of_ble_eq_true rfl) rfl (Nat.le_of_ble_eq_true rfl) rfl (fun v9 Q9 h9 => ?_)
  obtain ⟨rfl, rfl⟩ := h9
  obtain ⟨M4, eM4⟩ : ∃ z9 : zMap, zup M3 a33 (.inr (6, [.int (iI (4)), .long (lI (0)), .null]) : va_E) = z9 := ⟨_, rfl⟩
  rw [eM4]
  have o53 : M4 b = some (.inr (17, [.ref (σ 20 (m)), .ref (σ 0 (0)), .int (iI (x)), .ref (σ 0 (0)), .int (iI (y)), .ref (σ 0 (0))])) := eM4 ▸ (zup_n ne34).trans o43
  have o54 : M4 fr = some (.inr (26, [va_rf (xo σ 30 (xs)), .ref (ar), .ref (out), .int (iI (dp))])) := eM4 ▸ (zup_n ne35).trans o44
  have o55 : M4 out = some (.inr (6, [.int (iI (k1)), .long (lI (b1)), va_rf (t1)])) := eM4 ▸ (zup_n ne36).trans o45
  have o56 : M4 cx9 = some (.inr (6, [.int (iI (cK (w 19 (3 * m + x)))), .long (lI (cB (w 19 (3 * m + x)) (av x))), va_rf (cT σ (w 19 (3 * m + x)) (av x))])) := eM4 ▸ (zup_n ne37).trans o46
  have o57 : M4 cy9 = some (.inr (6, [.int (iI (cK (w 19 (3 * m + y)))), .long (lI (cB (w 19 (3 * m + y)) (av y))), va_rf (cT σ (w 19 (3 * m + y)) (av y))])) := eM4 ▸ (zup_n ne38).trans o47
  have o58 : M4 a6 = some (.inr (6, [.int (iI (4)), .long (lI (0)), .null])) := eM4 ▸ (zup_n ne39).trans o48
  have o59 : M4 ar = some (.inl (θ.2.1 11, 3, xQ g9)) := eM4 ▸ (zup_n ne40).trans o49
  have hX60 : xM θ σ w (xL w) M4 := eM4 ▸ hX50.up fr41
  have fx61 : zFx out M M4 := eM4 ▸ fx51.up (Or.inl no42)
  have o62 : M4 a33 = some (.inr (6, [.int (iI (4)), .long (lI (0)), .null])) := eM4 ▸ zup_s
  refine z_as (st' := [.ref (a33)]) rfl rfl rfl ?_
  refine z_astore (lv' := [(0, .ref (b)), (1, .ref (fr)), (2, .int (iI (tt))), (3, .ref (a6)), (4, .ref (a33))]) C 25 [1, 2, 3, 4, 0] dX17_work_23 (by decide) rfl rfl ?_
  refine z_aload_n C 26 3 dX17_work_25 rfl rfl ?_
  refine z_aload_n C 27 1 dX17_work_26 rfl rfl ?_
  refine z_getf C hκ (v := .ref (ar)) 30 1 zk_X26 o54 (by decide) q1748 (Or.inl rfl) rfl dX17_work_27 rfl ?_
  refine z_aload_n C 31 0 dX17_work_30 rfl rfl ?_
  refine z_getf C hκ (v := .int (iI (x))) 34 2 zk_X17 o53 (by decide) q811 (Or.inr q812) rfl dX17_work_31 rfl ?_
  refine z_qald C hκ 35 11 o59 rfl (by omega) (by omega) (by decide) (congrArg va_rf hgx9) dX17_work_34 rfl ?_
  refine z_as (st' := [.ref (cx9), .ref (a6)]) rfl rfl rfl ?_
  refine z_callV (As := [.ref (cx9)]) (rest := []) C hκ hκl 38 (k6_become hT (a6) (4) (0) (none) (cx9) (cK (w 19 (3 * m + x))) (cB (w 19 (3 * m + x)) (av x)) (cT σ (w 19 (3 * m + x)) (av x)) o58 o56 (fun z9 => ne10 z9.symm)) dX17_work_35 q1800 q1575 q1576 q96 q1577 znX6_become (Nat.le_of_ble_eq_true rfl) (Nat.le_of_ble_eq_true rfl) (Nat.le_of_ble_eq_true rfl) (Nat.le_of_ble_eq_true rfl) (zrec_P o58) rfl rfl (Nat.le_of_ble_eq_true rfl) rfl (fun v9 Q9 h9 => ?_)
  obtain ⟨rfl, rfl⟩ := h9
  obtain ⟨M5, eM5⟩ : ∃ z9 : zMap, zup M4 a6 (.inr (6, [.int (iI (cK (w 19 (3 * m + x)))), .long (lI (cB (w 19 (3 * m + x)) (av x))), va_rf (cT σ (w 19 (3 * m + x)) (av x))]) : va_E) = z9 := ⟨_, rfl⟩
  rw [eM5]
  have o63 : M5 b = some (.inr (17, [.ref (σ 20 (m)), .ref (σ 0 (0)), .int (iI (x)), .ref (σ 0 (0)), .int (iI (y)), .ref (σ 0 (0))])) := eM5 ▸ (zup_n ne7).trans o53
  have o64 : M5 fr = some (.inr (26, [va_rf (xo σ 30 (xs)), .ref (ar), .ref (out), .int (iI (dp))])) := eM5 ▸ (zup_n ne8).trans o54
  have o65 : M5 out = some (.inr (6, [.int (iI (k1)), .long (lI (b1)), va_rf (t1)])) := eM5 ▸ (zup_n ne9).trans o55
  have o66 : M5 cx9 = some (.inr (6, [.int (iI (cK (w 19 (3 * m + x)))), .long (lI (cB (w 19 (3 * m + x)) (av x))), va_rf (cT σ (w 19 (3 * m + x)) (av x))])) := eM5 ▸ (zup_n ne10).trans o56
  have o67 : M5 cy9 = some (.inr (6, [.int (iI (cK (w 19 (3 * m + y)))), .long (lI (cB (w 19 (3 * m + y)) (av y))), va_rf (cT σ (w 19 (3 * m + y)) (av y))])) := eM5 ▸ (zup_n ne11).trans o57
  have o68 : M5 a33 = some (.inr (6, [.int (iI (4)), .long (lI (0)), .null])) := eM5 ▸ (zup_n (fun z9 => ne39 z9.symm)).trans o62
  have o69 : M5 ar = some (.inl (θ.2.1 11, 3, xQ g9)) := eM5 ▸ (zup_n ne12).trans o59
  have hX70 : xM θ σ w (xL w) M5 := eM5 ▸ hX60.up fr13
  have fx71 : zFx out M M5 := eM5 ▸ fx61.up (Or.inl no14)
  have o72 : M5 a6 = some (.inr (6, [.int (iI (cK (w 19 (3 * m + x)))), .long (lI (cB (w 19 (3 * m + x)) (av x))), va_rf (cT σ (w 19 (3 * m + x)) (av x))])) := eM5 ▸ zup_s
  refine z_as (st' := []) rfl rfl rfl ?_
  refine z_aload C 40 4 dX17_work_38 rfl rfl ?_
  refine z_aload_n C 41 1 dX17_work_40 rfl rfl ?_
  refine z_getf C hκ (v := .ref (ar)) 44 1 zk_X26 o64 (by decide) q1748 (Or.inl rfl) rfl dX17_work_41 rfl ?_
  refine z_aload_n C 45 0 dX17_work_44 rfl rfl ?_
  refine z_getf C hκ (v := .int (iI (y))) 48 4 zk_X17 o63 (by decide) q895 (Or.inl rfl) rfl dX17_work_45 rfl ?_
  refine z_qald C hκ 49 11 o69 rfl (by omega) (by omega) (by decide) (congrArg va_rf hgy9) dX17_work_48 rfl ?_
  refine z_as (st' := [.ref (cy9), .ref (a33)]) rfl rfl rfl ?_
  refine z_callV (As := [.ref (cy9)]) (rest := []) C hκ hκl 52 (k6_become hT (a33) (4) (0) (none) (cy9) (cK (w 19 (3 * m + y))) (cB (w 19 (3 * m + y)) (av y)) (cT σ (w 19 (3 * m + y)) (av y)) o68 o67 (fun z9 => ne38 z9.symm)) dX17_work_49 q1800 q1575 q1576 q96 q1577 znX6_become (Nat.le_of_ble_eq_true rfl) (Nat.le_of_ble_eq_true rfl) (Nat.le_of_ble_eq_true rfl) (Nat.le_of_ble_eq_true rfl) (zrec_P o68) rfl rfl (Nat.le_of_ble_eq_true rfl) rfl (fun v9 Q9 h9 => ?_)
  obtain ⟨rfl, rfl⟩ := h9
  obtain ⟨M6, eM6⟩ : ∃ z9 : zMap, zup M5 a33 (.inr (6, [.int (iI (cK (w 19 (3 * m + y)))), .long (lI (cB (w 19 (3 * m + y)) (av y))), va_rf (cT σ (w 19 (3 * m + y)) (av y))]) : va_E) = z9 := ⟨_, rfl⟩
  rw [eM6]
  have o73 : M6 b = some (.inr (17, [.ref (σ 20 (m)), .ref (σ 0 (0)), .int (iI (x)), .ref (σ 0 (0)), .int (iI (y)), .ref (σ 0 (0))])) := eM6 ▸ (zup_n ne34).trans o63
  have o74 : M6 fr = some (.inr (26, [va_rf (xo σ 30 (xs)), .ref (ar), .ref (out), .int (iI (dp))])) := eM6 ▸ (zup_n ne35).trans o64
  have o75 : M6 out = some (.inr (6, [.int (iI (k1)), .long (lI (b1)), va_rf (t1)])) := eM6 ▸ (zup_n ne36).trans o65
  have o76 : M6 cx9 = some (.inr (6, [.int (iI (cK (w 19 (3 * m + x)))), .long (lI (cB (w 19 (3 * m + x)) (av x))), va_rf (cT σ (w 19 (3 * m + x)) (av x))])) := eM6 ▸ (zup_n ne37).trans o66
  have o77 : M6 cy9 = some (.inr (6, [.int (iI (cK (w 19 (3 * m + y)))), .long (lI (cB (w 19 (3 * m + y)) (av y))), va_rf (cT σ (w 19 (3 * m + y)) (av y))])) := eM6 ▸ (zup_n ne38).trans o67
  have o78 : M6 a6 = some (.inr (6, [.int (iI (cK (w 19 (3 * m + x)))), .long (lI (cB (w 19 (3 * m + x)) (av x))), va_rf (cT σ (w 19 (3 * m + x)) (av x))])) := eM6 ▸ (zup_n ne39).trans o72
  have o79 : M6 ar = some (.inl (θ.2.1 11, 3, xQ g9)) := eM6 ▸ (zup_n ne40).trans o69
  have hX80 : xM θ σ w (xL w) M6 := eM6 ▸ hX70.up fr41
  have fx81 : zFx out M M6 := eM6 ▸ fx71.up (Or.inl no42)
  have o82 : M6 a33 = some (.inr (6, [.int (iI (cK (w 19 (3 * m + y)))), .long (lI (cB (w 19 (3 * m + y)) (av y))), va_rf (cT σ (w 19 (3 * m + y)) (av y))])) := eM6 ▸ zup_s
  refine z_as (st' := []) rfl rfl rfl ?_
  refine z_aload_n C 53 3 dX17_work_52 rfl rfl ?_
  refine z_iload_n C 54 2 dX17_work_53 rfl rfl ?_
  refine z_callV (As := [.int (iI (tt))]) (rest := []) C hκ hκl 57 (k6_widen hT (a6) (cK (w 19 (3 * m + x))) (cB (w 19 (3 * m + x)) (av x)) (cT σ (w 19 (3 * m + x)) (av x)) (tt) ⟨by omega, by omega⟩ o78 hnmx9 ⟨by omega, by omega⟩) dX17_work_54 q1801 q1725 q1726 q96 q1727 znX6_widen (Nat.le_of_ble_eq_true rfl) (Nat.le_of_ble_eq_true rfl) (Nat.le_of_ble_eq_true rfl) (Nat.le_of_ble_eq_true rfl) (zrec_P o78) rfl rfl (Nat.le_of_ble_eq_true rfl) rfl (fun v9 Q9 h9 => ?_)
  obtain ⟨rfl, rfl⟩ := h9
  obtain ⟨M7, eM7⟩ : ∃ z9 : zMap, zup M6 a6 (.inr (6, [.int (iI (tt)), .long (lI (wdC (cK (w 19 (3 * m + x))) (cB (w 19 (3 * m + x)) (av x)) (tt))), va_rf (cT σ (w 19 (3 * m + x)) (av x))]) : va_E) = z9 := ⟨_, rfl⟩
  rw [eM7]
  have o83 : M7 b = some (.inr (17, [.ref (σ 20 (m)), .ref (σ 0 (0)), .int (iI (x)), .ref (σ 0 (0)), .int (iI (y)), .ref (σ 0 (0))])) := eM7 ▸ (zup_n ne7).trans o73
  have o84 : M7 fr = some (.inr (26, [va_rf (xo σ 30 (xs)), .ref (ar), .ref (out), .int (iI (dp))])) := eM7 ▸ (zup_n ne8).trans o74
  have o85 : M7 out = some (.inr (6, [.int (iI (k1)), .long (lI (b1)), va_rf (t1)])) := eM7 ▸ (zup_n ne9).trans o75
  have o86 : M7 cx9 = some (.inr (6, [.int (iI (cK (w 19 (3 * m + x)))), .long (lI (cB (w 19 (3 * m + x)) (av x))), va_rf (cT σ (w 19 (3 * m + x)) (av x))])) := eM7 ▸ (zup_n ne10).trans o76
  have o87 : M7 cy9 = some (.inr (6, [.int (iI (cK (w 19 (3 * m + y)))), .long (lI (cB (w 19 (3 * m + y)) (av y))), va_rf (cT σ (w 19 (3 * m + y)) (av y))])) := eM7 ▸ (zup_n ne11).trans o77
  have o88 : M7 a33 = some (.inr (6, [.int (iI (cK (w 19 (3 * m + y)))), .long (lI (cB (w 19 (3 * m + y)) (av y))), va_rf (cT σ (w 19 (3 * m + y)) (av y))])) := eM7 ▸ (zup_n (fun z9 => ne39 z9.symm)).trans o82
  have o89 : M7 ar = some (.inl (θ.2.1 11, 3, xQ g9)) := eM7 ▸ (zup_n ne12).trans o79
  have hX90 : xM θ σ w (xL w) M7 := eM7 ▸ hX80.up fr13
  have fx91 : zFx out M M7 := eM7 ▸ fx81.up (Or.inl no14)
  have o92 : M7 a6 = some (.inr (6, [.int (iI (tt)), .long (lI (wdC (cK (w 19 (3 * m + x))) (cB (w 19 (3 * m + x)) (av x)) (tt))), va_rf (cT σ (w 19 (3 * m + x)) (av x))])) := eM7 ▸ zup_s
  refine z_as (st' := []) rfl rfl rfl ?_
  refine z_aload C 59 4 dX17_work_57 rfl rfl ?_
  refine z_iload_n C 60 2 dX17_work_59 rfl rfl ?_
  refine z_callV (As := [.int (iI (tt))]) (rest := []) C hκ hκl 63 (k6_widen hT (a33) (cK (w 19 (3 * m + y))) (cB (w 19 (3 * m + y)) (av y)) (cT σ (w 19 (3 * m + y)) (av y)) (tt) ⟨by omega, by omega⟩ o88 hnmy9 ⟨by omega, by omega⟩) dX17_work_60 q1801 q1725 q1726 q96 q1727 znX6_widen (Nat.le_of_ble_eq_true rfl) (Nat.le_of_ble_eq_true rfl) (Nat.le_of_ble_eq_true rfl) (Nat.le_of_ble_eq_true rfl) (zrec_P o88) rfl rfl (Nat.le_of_ble_eq_true rfl) rfl (fun v9 Q9 h9 => ?_)
  obtain ⟨rfl, rfl⟩ := h9
  obtain ⟨M8, eM8⟩ : ∃ z9 : zMap, zup M7 a33 (.inr (6, [.int (iI (tt)), .long (lI (wdC (cK (w 19 (3 * m + y))) (cB (w 19 (3 * m + y)) (av y)) (tt))), va_rf (cT σ (w 19 (3 * m + y)) (av y))]) : va_E) = z9 := ⟨_, rfl⟩
  rw [eM8]
  have o93 : M8 b = some (.inr (17, [.ref (σ 20 (m)), .ref (σ 0 (0)), .int (iI (x)), .ref (σ 0 (0)), .int (iI (y)), .ref (σ 0 (0))])) := eM8 ▸ (zup_n ne34).trans o83
  have o94 : M8 fr = some (.inr (26, [va_rf (xo σ 30 (xs)), .ref (ar), .ref (out), .int (iI (dp))])) := eM8 ▸ (zup_n ne35).trans o84
  have o95 : M8 out = some (.inr (6, [.int (iI (k1)), .long (lI (b1)), va_rf (t1)])) := eM8 ▸ (zup_n ne36).trans o85
  have o96 : M8 cx9 = some (.inr (6, [.int (iI (cK (w 19 (3 * m + x)))), .long (lI (cB (w 19 (3 * m + x)) (av x))), va_rf (cT σ (w 19 (3 * m + x)) (av x))])) := eM8 ▸ (zup_n ne37).trans o86
  have o97 : M8 cy9 = some (.inr (6, [.int (iI (cK (w 19 (3 * m + y)))), .long (lI (cB (w 19 (3 * m + y)) (av y))), va_rf (cT σ (w 19 (3 * m + y)) (av y))])) := eM8 ▸ (zup_n ne38).trans o87
  have o98 : M8 a6 = some (.inr (6, [.int (iI (tt)), .long (lI (wdC (cK (w 19 (3 * m + x))) (cB (w 19 (3 * m + x)) (av x)) (tt))), va_rf (cT σ (w 19 (3 * m + x)) (av x))])) := eM8 ▸ (zup_n ne39).trans o92
  have o99 : M8 ar = some (.inl (θ.2.1 11, 3, xQ g9)) := eM8 ▸ (zup_n ne40).trans o89
  have hX100 : xM θ σ w (xL w) M8 := eM8 ▸ hX90.up fr41
  have fx101 : zFx out M M8 := eM8 ▸ fx91.up (Or.inl no42)
  have o102 : M8 a33 = some (.inr (6, [.int (iI (tt)), .long (lI (wdC (cK (w 19 (3 * m + y))) (cB (w 19 (3 * m + y)) (av y)) (tt))), va_rf (cT σ (w 19 (3 * m + y)) (av y))])) := eM8 ▸ zup_s
  refine z_as (st' := []) rfl rfl rfl ?_
  have hwx9 : wdC (cK (w 19 (3 * m + x))) (cB (w 19 (3 * m + x)) (av x)) tt = (wdL (av x) (w 19 (3 * m + x)) tt) := by unfold cK cB; rw [if_pos (by omega), if_pos (by omega)]; exact wdC_eq (by omega) (by omega)
  have o103 : M8 a6 = some (.inr (6, [.int (iI (tt)), .long (lI ((wdL (av x) (w 19 (3 * m + x)) tt))), va_rf (cT σ (w 19 (3 * m + x)) (av x))])) := by rw [o98, ← hwx9]
  have hwy9 : wdC (cK (w 19 (3 * m + y))) (cB (w 19 (3 * m + y)) (av y)) tt = (wdL (av y) (w 19 (3 * m + y)) tt) := by unfold cK cB; rw [if_pos (by omega), if_pos (by omega)]; exact wdC_eq (by omega) (by omega)
  have o104 : M8 a33 = some (.inr (6, [.int (iI (tt)), .long (lI ((wdL (av y) (w 19 (3 * m + y)) tt))), va_rf (cT σ (w 19 (3 * m + y)) (av y))])) := by rw [o102, ← hwy9]
  refine z_iload_n C 64 2 dX17_work_63 rfl rfl ?_
  refine z_bipush C 66 dX17_work_64 (by decide) rfl ?_
  refine z_icmp_ge C 106 69 dX17_work_66 (by decide) ⟨by omega, by omega⟩ ⟨by decide, by decide⟩ rfl (fun c105 => ?_) (fun c105 => ?_)
  · skip
    refine z_aload_n C 107 3 dX17_work_106 rfl rfl ?_
    refine z_callV (As := []) (rest := []) C hκ hκl 110 (k6_real hT (a6) (tt) ((wdL (av x) (w 19 (3 * m + x)) tt)) (cT σ (w 19 (3 * m + x)) (av x)) o103 hmx9 ⟨by omega, by omega⟩) dX17_work_107 q1802 q1618 q1619 q96 q1620 znX6_real (Nat.le_of_ble_eq_true rfl) (Nat.le_of_ble_eq_true rfl) (Nat.le_of_ble_eq_true rfl) (Nat.le_of_ble_eq_true rfl) (zrec_P o103) rfl rfl (Nat.le_of_ble_eq_true rfl) rfl (fun v9 Q9 h9 => ?_)
    obtain ⟨rfl, rfl⟩ := h9
    refine z_as (st' := [.double (rlD (tt) ((wdL (av x) (w 19 (3 * m + x)) tt)))]) rfl rfl rfl ?_
    refine z_dstore (lv' := [(0, .ref (b)), (1, .ref (fr)), (2, .int (iI (tt))), (3, .ref (a6)), (4, .ref (a33)), (5, .double (rlD (tt) ((wdL (av x) (w 19 (3 * m + x)) tt))))]) C 112 [1, 2, 3, 4, 5, 0] dX17_work_110 (by decide) rfl rfl ?_
    refine z_aload C 114 4 dX17_work_112 rfl rfl ?_
    refine z_callV (As := []) (rest := []) C hκ hκl 117 (k6_real hT (a33) (tt) ((wdL (av y) (w 19 (3 * m + y)) tt)) (cT σ (w 19 (3 * m + y)) (av y)) o104 hmy9 ⟨by omega, by omega⟩) dX17_work_114 q1802 q1618 q1619 q96 q1620 znX6_real (Nat.le_of_ble_eq_true rfl) (Nat.le_of_ble_eq_true rfl) (Nat.le_of_ble_eq_true rfl) (Nat.le_of_ble_eq_true rfl) (zrec_P o104) rfl rfl (Nat.le_of_ble_eq_true rfl) rfl (fun v9 Q9 h9 => ?_)
    obtain ⟨rfl, rfl⟩ := h9
    refine z_as (st' := [.double (rlD (tt) ((wdL (av y) (w 19 (3 * m + y)) tt)))]) rfl rfl rfl ?_
    refine z_dstore (lv' := [(0, .ref (b)), (1, .ref (fr)), (2, .int (iI (tt))), (3, .ref (a6)), (4, .ref (a33)), (5, .double (rlD (tt) ((wdL (av x) (w 19 (3 * m + x)) tt)))), (7, .double (rlD (tt) ((wdL (av y) (w 19 (3 * m + y)) tt))))]) C 119 [1, 2, 3, 4, 5, 6, 0] dX17_work_117 (by decide) rfl rfl ?_
    have t67 : tt = 6 ∨ tt = 7 := by omega
    have v19 := rlD_vf hmx9
    have v29 := rlD_vf hmy9
    obtain ⟨s1, n1, hr1, e1⟩ := fZ_of v19
    obtain ⟨s2, n2, hr2, e2⟩ := fZ_of v29
    have e1U : adU tt (wdL (av x) (w 19 (3 * m + x)) tt) = fZ s1 n1 := (rl_U t67).symm.trans e1
    have e2U : adU tt (wdL (av y) (w 19 (3 * m + y)) tt) = fZ s2 n2 := (rl_U t67).symm.trans e2
    rw [e1, e2]
    refine z_as (st' := []) (lv' := [(0, .ref (b)), (1, .ref (fr)), (2, .int (iI (tt))), (3, .ref (a6)), (4, .ref (a33)), (5, .double (fZ s1 n1)), (7, .double (fZ s2 n2))]) rfl rfl rfl ?_
    refine z_aload_n C 120 0 dX17_work_119 rfl rfl ?_
    refine z_getf C hκ (v := .ref (σ 0 (0))) 123 5 zk_X17 o93 (by decide) q896 (Or.inl rfl) rfl dX17_work_120 rfl ?_
    refine z_dload C 125 5 dX17_work_123 rfl rfl ?_
    refine z_dload C 127 6 dX17_work_125 rfl rfl ?_
    refine z_dnegE (v := fZ (!s2) n2) C 128 dX17_work_127 (fZ_neg hr2) rfl ?_
    refine z_dcmp (a := sg s1 n1) (b := sg (!s2) n2) C 129 dX17_work_128 (fcmp hr1 hr2) rfl ?_
    refine z_ifC_ne C 149 132 dX17_work_129 (by decide) rfl (fun c106 => ?_) (fun c106 => ?_)
    · skip
      have hN9 : adN (fZ s1 n1) (fZ s2 n2) = false := by first | exact adN_no3 hr1 hr2 (by assumption) | exact adN_no2 hr1 hr2 (by assumption) | exact adN_no1 hr1 hr2 (by assumption)
      refine z_iconst C 150 dX17_work_149 rfl ?_
      refine z_goto C 154 dX17_work_150 (by decide) ?_
      refine z_iconst C 155 dX17_work_154 rfl ?_
      refine zx_callVN (As := [.int (iI (1)), .int (iI (2))]) (rest := []) C hκ hκl hT 158 (k0_need hT hZ (σ 0 (0)) (true) (2) ⟨by decide, by decide⟩) dX17_work_155 q1809 q1493 qs20 q90 q1494 (zNd_of znX0_need) (Nat.le_of_ble_eq_true rfl) (Nat.le_of_ble_eq_true rfl) (Nat.le_of_ble_eq_true rfl) (Nat.le_of_ble_eq_true rfl) (zrec_P hX100.o) rfl rfl (Nat.le_of_ble_eq_true rfl) rfl (fun v9 Q9 h9 => ?_) (fun E9 b9 Q9 h9 => ?_)
      rotate_left 1
      · skip
        obtain ⟨hnr107, Mr107, rfl, gr107, er107⟩ := h9
        have o108 : Mr107 b = some (.inr (17, [.ref (σ 20 (m)), .ref (σ 0 (0)), .int (iI (x)), .ref (σ 0 (0)), .int (iI (y)), .ref (σ 0 (0))])) := gr107 _ _ o93
        have o109 : Mr107 fr = some (.inr (26, [va_rf (xo σ 30 (xs)), .ref (ar), .ref (out), .int (iI (dp))])) := gr107 _ _ o94
        have o110 : Mr107 out = some (.inr (6, [.int (iI (k1)), .long (lI (b1)), va_rf (t1)])) := gr107 _ _ o95
        have o111 : Mr107 cx9 = some (.inr (6, [.int (iI (cK (w 19 (3 * m + x)))), .long (lI (cB (w 19 (3 * m + x)) (av x))), va_rf (cT σ (w 19 (3 * m + x)) (av x))])) := gr107 _ _ o96
        have o112 : Mr107 cy9 = some (.inr (6, [.int (iI (cK (w 19 (3 * m + y)))), .long (lI (cB (w 19 (3 * m + y)) (av y))), va_rf (cT σ (w 19 (3 * m + y)) (av y))])) := gr107 _ _ o97
        have o113 : Mr107 a6 = some (.inr (6, [.int (iI (tt)), .long (lI ((wdL (av x) (w 19 (3 * m + x)) tt))), va_rf (cT σ (w 19 (3 * m + x)) (av x))])) := gr107 _ _ o103
        have o114 : Mr107 a33 = some (.inr (6, [.int (iI (tt)), .long (lI ((wdL (av y) (w 19 (3 * m + y)) tt))), va_rf (cT σ (w 19 (3 * m + y)) (av y))])) := gr107 _ _ o104
        have o115 : Mr107 ar = some (.inl (θ.2.1 11, 3, xQ g9)) := gr107 _ _ o99
        have hX116 : xM θ σ w (xL w) Mr107 := hX100.ge gr107
        have fx117 : zFx out M Mr107 := fun b9 e9 g9 h9 => gr107 _ _ (fx101 b9 e9 g9 h9)
        refine zx_out C hκ hT XX (fun z9 h9 => by cases h9) (by exfalso; exact hnr107 rfl) (Nat.le_of_ble_eq_true rfl) (Nat.le_of_ble_eq_true rfl)
      obtain ⟨rfl, hnr118, rfl⟩ := h9
      refine z_as (st' := []) rfl rfl rfl ?_
      refine z_widen (n' := 3) (k' := 13) (Nat.le_refl _) (Nat.le_refl _) ?_
      have hnb9 : adB tt (wdL (av x) (w 19 (3 * m + x)) tt) (wdL (av y) (w 19 (3 * m + y)) tt) = false := by unfold adB; rw [e1U, e2U, hN9]; simp
      have hv9 : vf_n64 (FP.dadd (adU tt (wdL (av x) (w 19 (3 * m + x)) tt)) (adU tt (wdL (av y) (w 19 (3 * m + y)) tt))) := by rw [e1U, e2U]; exact dadd_vf hr1 hr2 (adN_ne hr1 hr2 hN9)
      refine z_aload_n C 159 3 dX17_work_158 rfl rfl ?_
      refine z_iload_n C 160 2 dX17_work_159 rfl rfl ?_
      refine z_bipush C 162 dX17_work_160 (by decide) rfl ?_
      refine z_icmp_ne C 182 165 dX17_work_162 (by decide) ⟨by omega, by omega⟩ ⟨by decide, by decide⟩ rfl (fun c119 => ?_) (fun c119 => ?_)
      · skip
        refine z_dload C 184 5 dX17_work_182 rfl rfl ?_
        refine z_dload C 186 6 dX17_work_184 rfl rfl ?_
        refine z_daddE (v := FP.dadd (fZ s1 n1) (fZ s2 n2)) C 187 dX17_work_186 rfl (by rw [← e1U, ← e2U]; exact hv9) rfl ?_
        refine z_callS (As := [.double (FP.dadd (fZ s1 n1) (fZ s2 n2))]) (rest := [.ref (a6)]) C hκ hκl 190 (kD_bits hT (FP.dadd (fZ s1 n1) (fZ s2 n2)) (by rw [← e1U, ← e2U]; exact hv9)) dX17_work_187 q1812 q1561 q134 q1562 znJ16_doubleToLongBits (Nat.le_of_ble_eq_true rfl) (Nat.le_of_ble_eq_true rfl) (Nat.le_of_ble_eq_true rfl) (Nat.le_of_ble_eq_true rfl) rfl (Nat.le_of_ble_eq_true rfl) rfl (fun v9 Q9 h9 => ?_)
        obtain ⟨rfl, rfl⟩ := h9
        refine z_as (st' := [.long ((FP.dadd (fZ s1 n1) (fZ s2 n2)).toInt64), .ref (a6)]) rfl rfl rfl ?_
        rw [show (.long ((FP.dadd (fZ s1 n1) (fZ s2 n2)).toInt64) : Value) = .long (lI (adV tt (wdL (av x) (w 19 (3 * m + x)) tt) (wdL (av y) (w 19 (3 * m + y)) tt))) from (congrArg Value.long (lI_sI _)).trans (congrArg (fun z9 => Value.long (lI z9)) (by unfold adV; rw [if_neg (by omega), if_neg (by omega), if_neg (by omega), e1U, e2U]))]
        refine z_putf (fs' := [.int (iI (tt)), .long (lI (adV tt (wdL (av x) (w 19 (3 * m + x)) tt) (wdL (av y) (w 19 (3 * m + y)) tt))), va_rf (cT σ (w 19 (3 * m + x)) (av x))]) C hκ 193 1 zk_X6 o103 (by decide) q251 (Or.inl rfl) rfl rfl rfl (Nat.le_of_ble_eq_true rfl) rfl dX17_work_190 rfl ?_
        obtain ⟨M9, eM9⟩ : ∃ z9 : zMap, zup M8 a6 (.inr (6, [.int (iI (tt)), .long (lI (adV tt (wdL (av x) (w 19 (3 * m + x)) tt) (wdL (av y) (w 19 (3 * m + y)) tt))), va_rf (cT σ (w 19 (3 * m + x)) (av x))]) : va_E) = z9 := ⟨_, rfl⟩
        rw [eM9]
        have o120 : M9 b = some (.inr (17, [.ref (σ 20 (m)), .ref (σ 0 (0)), .int (iI (x)), .ref (σ 0 (0)), .int (iI (y)), .ref (σ 0 (0))])) := eM9 ▸ (zup_n ne7).trans o93
        have o121 : M9 fr = some (.inr (26, [va_rf (xo σ 30 (xs)), .ref (ar), .ref (out), .int (iI (dp))])) := eM9 ▸ (zup_n ne8).trans o94
        have o122 : M9 out = some (.inr (6, [.int (iI (k1)), .long (lI (b1)), va_rf (t1)])) := eM9 ▸ (zup_n ne9).trans o95
        have o123 : M9 cx9 = some (.inr (6, [.int (iI (cK (w 19 (3 * m + x)))), .long (lI (cB (w 19 (3 * m + x)) (av x))), va_rf (cT σ (w 19 (3 * m + x)) (av x))])) := eM9 ▸ (zup_n ne10).trans o96
        have o124 : M9 cy9 = some (.inr (6, [.int (iI (cK (w 19 (3 * m + y)))), .long (lI (cB (w 19 (3 * m + y)) (av y))), va_rf (cT σ (w 19 (3 * m + y)) (av y))])) := eM9 ▸ (zup_n ne11).trans o97
        have o125 : M9 a33 = some (.inr (6, [.int (iI (tt)), .long (lI ((wdL (av y) (w 19 (3 * m + y)) tt))), va_rf (cT σ (w 19 (3 * m + y)) (av y))])) := eM9 ▸ (zup_n (fun z9 => ne39 z9.symm)).trans o104
        have o126 : M9 ar = some (.inl (θ.2.1 11, 3, xQ g9)) := eM9 ▸ (zup_n ne12).trans o99
        have hX127 : xM θ σ w (xL w) M9 := eM9 ▸ hX100.up fr13
        have fx128 : zFx out M M9 := eM9 ▸ fx101.up (Or.inl no14)
        have o129 : M9 a6 = some (.inr (6, [.int (iI (tt)), .long (lI (adV tt (wdL (av x) (w 19 (3 * m + x)) tt) (wdL (av y) (w 19 (3 * m + y)) tt))), va_rf (cT σ (w 19 (3 * m + x)) (av x))])) := eM9 ▸ zup_s
        have hnv9 : nmOk tt (adV tt (wdL (av x) (w 19 (3 * m + x)) tt) (wdL (av y) (w 19 (3 * m + y)) tt)) := adV_nm (fun _ => hv9)
        refine z_aload_n C 194 0 dX17_work_193 rfl rfl ?_
        refine z_aload_n C 195 1 dX17_work_194 rfl rfl ?_
        refine z_aload_n C 196 3 dX17_work_195 rfl rfl ?_
        refine z_callU (owner := RX10) (As := [.ref (fr), .ref (a6)]) (rest := []) C hκ hκl 199 (k10_gives_17 hX127 hs hw hT (b) (m) (x) (y) (fr) (xo σ 30 (xs)) (ar) (out) (dp) (k1) (b1) (t1) (a6) (tt) (adV tt (wdL (av x) (w 19 (3 * m + x)) tt) (wdL (av y) (w 19 (3 * m + y)) tt)) (cT σ (w 19 (3 * m + x)) (av x)) o120 ⟨by omega, by omega⟩ r_x r_y r_dp o121 o122 hOf o129 ne9 hnv9 ⟨by omega, by omega⟩ ⟨by omega, by omega⟩ ⟨by omega, by omega⟩) dX17_work_196 q1813 q1814 q1815 q1786 q104 q1787 rfl ⟨by decide, by decide, rfl⟩ (Nat.le_of_ble_eq_true rfl) (Nat.le_of_ble_eq_true rfl) (Nat.le_of_ble_eq_true rfl) (Nat.le_of_ble_eq_true rfl) (zrec_P o120) rfl rfl (Nat.le_of_ble_eq_true rfl) rfl (fun v9 Q9 h9 => ?_)
        obtain ⟨rfl, rfl⟩ := h9
        obtain ⟨M10, eM10⟩ : ∃ z9 : zMap, zup M9 out (.inr (6, [.int (iI (gvK (w 17 (m)) (suI (xpI w (m) (x)) (xpI w (m) (y))) (tt))), .long (lI (gvB (w 17 (m)) (suI (xpI w (m) (x)) (xpI w (m) (y))) (tt) (adV tt (wdL (av x) (w 19 (3 * m + x)) tt) (wdL (av y) (w 19 (3 * m + y)) tt)))), va_rf (gvT (w 17 (m)) (suI (xpI w (m) (x)) (xpI w (m) (y))) (cT σ (w 19 (3 * m + x)) (av x)))]) : va_E) = z9 := ⟨_, rfl⟩
        rw [eM10]
        have o130 : M10 b = some (.inr (17, [.ref (σ 20 (m)), .ref (σ 0 (0)), .int (iI (x)), .ref (σ 0 (0)), .int (iI (y)), .ref (σ 0 (0))])) := eM10 ▸ (zup_n ne2).trans o120
        have o131 : M10 fr = some (.inr (26, [va_rf (xo σ 30 (xs)), .ref (ar), .ref (out), .int (iI (dp))])) := eM10 ▸ (zup_n ne3).trans o121
        have o132 : M10 cx9 = some (.inr (6, [.int (iI (cK (w 19 (3 * m + x)))), .long (lI (cB (w 19 (3 * m + x)) (av x))), va_rf (cT σ (w 19 (3 * m + x)) (av x))])) := eM10 ▸ (zup_n (fun z9 => (fun z9 => hnx9 z9.symm) z9.symm)).trans o123
        have o133 : M10 cy9 = some (.inr (6, [.int (iI (cK (w 19 (3 * m + y)))), .long (lI (cB (w 19 (3 * m + y)) (av y))), va_rf (cT σ (w 19 (3 * m + y)) (av y))])) := eM10 ▸ (zup_n (fun z9 => (fun z9 => hny9 z9.symm) z9.symm)).trans o124
        have o134 : M10 a6 = some (.inr (6, [.int (iI (tt)), .long (lI (adV tt (wdL (av x) (w 19 (3 * m + x)) tt) (wdL (av y) (w 19 (3 * m + y)) tt))), va_rf (cT σ (w 19 (3 * m + x)) (av x))])) := eM10 ▸ (zup_n (fun z9 => ne9 z9.symm)).trans o129
        have o135 : M10 a33 = some (.inr (6, [.int (iI (tt)), .long (lI ((wdL (av y) (w 19 (3 * m + y)) tt))), va_rf (cT σ (w 19 (3 * m + y)) (av y))])) := eM10 ▸ (zup_n (fun z9 => ne36 z9.symm)).trans o125
        have o136 : M10 ar = some (.inl (θ.2.1 11, 3, xQ g9)) := eM10 ▸ (zup_n ne4).trans o126
        have hX137 : xM θ σ w (xL w) M10 := eM10 ▸ hX127.up hOf
        have fx138 : zFx out M M10 := eM10 ▸ fx128.up (Or.inr rfl)
        have o139 : M10 out = some (.inr (6, [.int (iI (gvK (w 17 (m)) (suI (xpI w (m) (x)) (xpI w (m) (y))) (tt))), .long (lI (gvB (w 17 (m)) (suI (xpI w (m) (x)) (xpI w (m) (y))) (tt) (adV tt (wdL (av x) (w 19 (3 * m + x)) tt) (wdL (av y) (w 19 (3 * m + y)) tt)))), va_rf (gvT (w 17 (m)) (suI (xpI w (m) (x)) (xpI w (m) (y))) (cT σ (w 19 (3 * m + x)) (av x)))])) := eM10 ▸ zup_s
        refine z_as (st' := []) rfl rfl rfl ?_
        exact z_vret C dX17_work_199 (Nat.le_of_ble_eq_true rfl) (Nat.le_of_ble_eq_true rfl) ⟨rfl, (by rw [ett]; exact hnb9), M10, rfl, hX137, (by rw [ett]; have h9 := o139; rw [ett] at h9; exact h9), xKp.of fx138⟩
      · skip
        refine z_aload_n C 166 3 dX17_work_165 rfl rfl ?_
        refine z_callV (As := []) (rest := [.ref (a6)]) C hκ hκl 169 (k6_single hT (a6) (tt) ((wdL (av x) (w 19 (3 * m + x)) tt)) (cT σ (w 19 (3 * m + x)) (av x)) o103 hmx9 ⟨by omega, by omega⟩) dX17_work_166 q1810 q1608 q1609 q96 q1610 znX6_single (Nat.le_of_ble_eq_true rfl) (Nat.le_of_ble_eq_true rfl) (Nat.le_of_ble_eq_true rfl) (Nat.le_of_ble_eq_true rfl) (zrec_P o103) rfl rfl (Nat.le_of_ble_eq_true rfl) rfl (fun v9 Q9 h9 => ?_)
        obtain ⟨rfl, rfl⟩ := h9
        refine z_as (st' := [.float (sgF (tt) ((wdL (av x) (w 19 (3 * m + x)) tt))), .ref (a6)]) rfl rfl rfl ?_
        refine z_aload C 171 4 dX17_work_169 rfl rfl ?_
        refine z_callV (As := []) (rest := [.float (sgF (tt) ((wdL (av x) (w 19 (3 * m + x)) tt))), .ref (a6)]) C hκ hκl 174 (k6_single hT (a33) (tt) ((wdL (av y) (w 19 (3 * m + y)) tt)) (cT σ (w 19 (3 * m + y)) (av y)) o104 hmy9 ⟨by omega, by omega⟩) dX17_work_171 q1810 q1608 q1609 q96 q1610 znX6_single (Nat.le_of_ble_eq_true rfl) (Nat.le_of_ble_eq_true rfl) (Nat.le_of_ble_eq_true rfl) (Nat.le_of_ble_eq_true rfl) (zrec_P o104) rfl rfl (Nat.le_of_ble_eq_true rfl) rfl (fun v9 Q9 h9 => ?_)
        obtain ⟨rfl, rfl⟩ := h9
        refine z_as (st' := [.float (sgF (tt) ((wdL (av y) (w 19 (3 * m + y)) tt))), .float (sgF (tt) ((wdL (av x) (w 19 (3 * m + x)) tt))), .ref (a6)]) rfl rfl rfl ?_
        have e69 : tt = 6 := by omega
        have hsx9 : sgF tt (wdL (av x) (w 19 (3 * m + x)) tt) = U32 (wdL (av x) (w 19 (3 * m + x)) tt) := by unfold sgF; rw [if_pos e69]
        have hsy9 : sgF tt (wdL (av y) (w 19 (3 * m + y)) tt) = U32 (wdL (av y) (w 19 (3 * m + y)) tt) := by unfold sgF; rw [if_pos e69]
        have hgx9 := sgF_vf hmx9
        have hgy9 := sgF_vf hmy9
        rw [hsx9] at hgx9
        rw [hsy9] at hgy9
        have hfa9 : FP.fadd (sgF tt (wdL (av x) (w 19 (3 * m + x)) tt)) (sgF tt (wdL (av y) (w 19 (3 * m + y)) tt)) = FP.d2f (FP.dadd (adU tt (wdL (av x) (w 19 (3 * m + x)) tt)) (adU tt (wdL (av y) (w 19 (3 * m + y)) tt))) := by rw [hsx9, hsy9]; have h9 := fadd_adV hgx9 hgy9 (by rw [← e69, e1U, e2U]; exact hN9); rw [← e69] at h9; exact h9
        refine z_faddE (v := FP.d2f (FP.dadd (adU tt (wdL (av x) (w 19 (3 * m + x)) tt)) (adU tt (wdL (av y) (w 19 (3 * m + y)) tt)))) C 175 dX17_work_174 hfa9 (d2f_vg hv9) rfl ?_
        refine z_callS (As := [.float (FP.d2f (FP.dadd (adU tt (wdL (av x) (w 19 (3 * m + x)) tt)) (adU tt (wdL (av y) (w 19 (3 * m + y)) tt))))]) (rest := [.ref (a6)]) C hκ hκl 178 (kF_bits hT (FP.d2f (FP.dadd (adU tt (wdL (av x) (w 19 (3 * m + x)) tt)) (adU tt (wdL (av y) (w 19 (3 * m + y)) tt)))) (d2f_vg hv9)) dX17_work_175 q1811 q1548 q133 q1549 znJ15_floatToIntBits (Nat.le_of_ble_eq_true rfl) (Nat.le_of_ble_eq_true rfl) (Nat.le_of_ble_eq_true rfl) (Nat.le_of_ble_eq_true rfl) rfl (Nat.le_of_ble_eq_true rfl) rfl (fun v9 Q9 h9 => ?_)
        obtain ⟨rfl, rfl⟩ := h9
        refine z_as (st' := [.int ((FP.d2f (FP.dadd (adU tt (wdL (av x) (w 19 (3 * m + x)) tt)) (adU tt (wdL (av y) (w 19 (3 * m + y)) tt)))).toInt32), .ref (a6)]) rfl rfl rfl ?_
        rw [show (.int ((FP.d2f (FP.dadd (adU tt (wdL (av x) (w 19 (3 * m + x)) tt)) (adU tt (wdL (av y) (w 19 (3 * m + y)) tt)))).toInt32) : Value) = .int (iI (sJ (FP.d2f (FP.dadd (adU tt (wdL (av x) (w 19 (3 * m + x)) tt)) (adU tt (wdL (av y) (w 19 (3 * m + y)) tt)))))) from congrArg Value.int (iI_sJ _)]
        refine z_i2l C 179 dX17_work_178 (sJ_R _) rfl ?_
        refine z_goto C 190 dX17_work_179 (by decide) ?_
        rw [show (.long (lI (sJ (FP.d2f (FP.dadd (adU tt (wdL (av x) (w 19 (3 * m + x)) tt)) (adU tt (wdL (av y) (w 19 (3 * m + y)) tt)))))) : Value) = .long (lI (adV tt (wdL (av x) (w 19 (3 * m + x)) tt) (wdL (av y) (w 19 (3 * m + y)) tt))) from congrArg (fun z9 => Value.long (lI z9)) (by unfold adV; rw [if_neg (by omega), if_neg (by omega), if_pos (by omega)])]
        refine z_putf (fs' := [.int (iI (tt)), .long (lI (adV tt (wdL (av x) (w 19 (3 * m + x)) tt) (wdL (av y) (w 19 (3 * m + y)) tt))), va_rf (cT σ (w 19 (3 * m + x)) (av x))]) C hκ 193 1 zk_X6 o103 (by decide) q251 (Or.inl rfl) rfl rfl rfl (Nat.le_of_ble_eq_true rfl) rfl dX17_work_190 rfl ?_
        obtain ⟨M11, eM11⟩ : ∃ z9 : zMap, zup M8 a6 (.inr (6, [.int (iI (tt)), .long (lI (adV tt (wdL (av x) (w 19 (3 * m + x)) tt) (wdL (av y) (w 19 (3 * m + y)) tt))), va_rf (cT σ (w 19 (3 * m + x)) (av x))]) : va_E) = z9 := ⟨_, rfl⟩
        rw [eM11]
        have o140 : M11 b = some (.inr (17, [.ref (σ 20 (m)), .ref (σ 0 (0)), .int (iI (x)), .ref (σ 0 (0)), .int (iI (y)), .ref (σ 0 (0))])) := eM11 ▸ (zup_n ne7).trans o93
        have o141 : M11 fr = some (.inr (26, [va_rf (xo σ 30 (xs)), .ref (ar), .ref (out), .int (iI (dp))])) := eM11 ▸ (zup_n ne8).trans o94
        have o142 : M11 out = some (.inr (6, [.int (iI (k1)), .long (lI (b1)), va_rf (t1)])) := eM11 ▸ (zup_n ne9).trans o95
        have o143 : M11 cx9 = some (.inr (6, [.int (iI (cK (w 19 (3 * m + x)))), .long (lI (cB (w 19 (3 * m + x)) (av x))), va_rf (cT σ (w 19 (3 * m + x)) (av x))])) := eM11 ▸ (zup_n ne10).trans o96
        have o144 : M11 cy9 = some (.inr (6, [.int (iI (cK (w 19 (3 * m + y)))), .long (lI (cB (w 19 (3 * m + y)) (av y))), va_rf (cT σ (w 19 (3 * m + y)) (av y))])) := eM11 ▸ (zup_n ne11).trans o97
        have o145 : M11 a33 = some (.inr (6, [.int (iI (tt)), .long (lI ((wdL (av y) (w 19 (3 * m + y)) tt))), va_rf (cT σ (w 19 (3 * m + y)) (av y))])) := eM11 ▸ (zup_n (fun z9 => ne39 z9.symm)).trans o104
        have o146 : M11 ar = some (.inl (θ.2.1 11, 3, xQ g9)) := eM11 ▸ (zup_n ne12).trans o99
        have hX147 : xM θ σ w (xL w) M11 := eM11 ▸ hX100.up fr13
        have fx148 : zFx out M M11 := eM11 ▸ fx101.up (Or.inl no14)
        have o149 : M11 a6 = some (.inr (6, [.int (iI (tt)), .long (lI (adV tt (wdL (av x) (w 19 (3 * m + x)) tt) (wdL (av y) (w 19 (3 * m + y)) tt))), va_rf (cT σ (w 19 (3 * m + x)) (av x))])) := eM11 ▸ zup_s
        have hnv9 : nmOk tt (adV tt (wdL (av x) (w 19 (3 * m + x)) tt) (wdL (av y) (w 19 (3 * m + y)) tt)) := adV_nm (fun _ => hv9)
        refine z_aload_n C 194 0 dX17_work_193 rfl rfl ?_
        refine z_aload_n C 195 1 dX17_work_194 rfl rfl ?_
        refine z_aload_n C 196 3 dX17_work_195 rfl rfl ?_
        refine z_callU (owner := RX10) (As := [.ref (fr), .ref (a6)]) (rest := []) C hκ hκl 199 (k10_gives_17 hX147 hs hw hT (b) (m) (x) (y) (fr) (xo σ 30 (xs)) (ar) (out) (dp) (k1) (b1) (t1) (a6) (tt) (adV tt (wdL (av x) (w 19 (3 * m + x)) tt) (wdL (av y) (w 19 (3 * m + y)) tt)) (cT σ (w 19 (3 * m + x)) (av x)) o140 ⟨by omega, by omega⟩ r_x r_y r_dp o141 o142 hOf o149 ne9 hnv9 ⟨by omega, by omega⟩ ⟨by omega, by omega⟩ ⟨by omega, by omega⟩) dX17_work_196 q1813 q1814 q1815 q1786 q104 q1787 rfl ⟨by decide, by decide, rfl⟩ (Nat.le_of_ble_eq_true rfl) (Nat.le_of_ble_eq_true rfl) (Nat.le_of_ble_eq_true rfl) (Nat.le_of_ble_eq_true rfl) (zrec_P o140) rfl rfl (Nat.le_of_ble_eq_true rfl) rfl (fun v9 Q9 h9 => ?_)
        obtain ⟨rfl, rfl⟩ := h9
        obtain ⟨M12, eM12⟩ : ∃ z9 : zMap, zup M11 out (.inr (6, [.int (iI (gvK (w 17 (m)) (suI (xpI w (m) (x)) (xpI w (m) (y))) (tt))), .long (lI (gvB (w 17 (m)) (suI (xpI w (m) (x)) (xpI w (m) (y))) (tt) (adV tt (wdL (av x) (w 19 (3 * m + x)) tt) (wdL (av y) (w 19 (3 * m + y)) tt)))), va_rf (gvT (w 17 (m)) (suI (xpI w (m) (x)) (xpI w (m) (y))) (cT σ (w 19 (3 * m + x)) (av x)))]) : va_E) = z9 := ⟨_, rfl⟩
        rw [eM12]
        have o150 : M12 b = some (.inr (17, [.ref (σ 20 (m)), .ref (σ 0 (0)), .int (iI (x)), .ref (σ 0 (0)), .int (iI (y)), .ref (σ 0 (0))])) := eM12 ▸ (zup_n ne2).trans o140
        have o151 : M12 fr = some (.inr (26, [va_rf (xo σ 30 (xs)), .ref (ar), .ref (out), .int (iI (dp))])) := eM12 ▸ (zup_n ne3).trans o141
        have o152 : M12 cx9 = some (.inr (6, [.int (iI (cK (w 19 (3 * m + x)))), .long (lI (cB (w 19 (3 * m + x)) (av x))), va_rf (cT σ (w 19 (3 * m + x)) (av x))])) := eM12 ▸ (zup_n (fun z9 => (fun z9 => hnx9 z9.symm) z9.symm)).trans o143
        have o153 : M12 cy9 = some (.inr (6, [.int (iI (cK (w 19 (3 * m + y)))), .long (lI (cB (w 19 (3 * m + y)) (av y))), va_rf (cT σ (w 19 (3 * m + y)) (av y))])) := eM12 ▸ (zup_n (fun z9 => (fun z9 => hny9 z9.symm) z9.symm)).trans o144
        have o154 : M12 a6 = some (.inr (6, [.int (iI (tt)), .long (lI (adV tt (wdL (av x) (w 19 (3 * m + x)) tt) (wdL (av y) (w 19 (3 * m + y)) tt))), va_rf (cT σ (w 19 (3 * m + x)) (av x))])) := eM12 ▸ (zup_n (fun z9 => ne9 z9.symm)).trans o149
        have o155 : M12 a33 = some (.inr (6, [.int (iI (tt)), .long (lI ((wdL (av y) (w 19 (3 * m + y)) tt))), va_rf (cT σ (w 19 (3 * m + y)) (av y))])) := eM12 ▸ (zup_n (fun z9 => ne36 z9.symm)).trans o145
        have o156 : M12 ar = some (.inl (θ.2.1 11, 3, xQ g9)) := eM12 ▸ (zup_n ne4).trans o146
        have hX157 : xM θ σ w (xL w) M12 := eM12 ▸ hX147.up hOf
        have fx158 : zFx out M M12 := eM12 ▸ fx148.up (Or.inr rfl)
        have o159 : M12 out = some (.inr (6, [.int (iI (gvK (w 17 (m)) (suI (xpI w (m) (x)) (xpI w (m) (y))) (tt))), .long (lI (gvB (w 17 (m)) (suI (xpI w (m) (x)) (xpI w (m) (y))) (tt) (adV tt (wdL (av x) (w 19 (3 * m + x)) tt) (wdL (av y) (w 19 (3 * m + y)) tt)))), va_rf (gvT (w 17 (m)) (suI (xpI w (m) (x)) (xpI w (m) (y))) (cT σ (w 19 (3 * m + x)) (av x)))])) := eM12 ▸ zup_s
        refine z_as (st' := []) rfl rfl rfl ?_
        exact z_vret C dX17_work_199 (Nat.le_of_ble_eq_true rfl) (Nat.le_of_ble_eq_true rfl) ⟨rfl, (by rw [ett]; exact hnb9), M12, rfl, hX157, (by rw [ett]; have h9 := o159; rw [ett] at h9; exact h9), xKp.of fx158⟩
    · skip
      refine z_dload C 134 5 dX17_work_132 rfl rfl ?_
      refine z_dload C 136 6 dX17_work_134 rfl rfl ?_
      refine z_dcmp (a := sg s1 n1) (b := sg s2 n2) C 137 dX17_work_136 (fcmp hr1 hr2) rfl ?_
      refine z_ifC_eq C 149 140 dX17_work_137 (by decide) rfl (fun c160 => ?_) (fun c160 => ?_)
      · skip
        have hN9 : adN (fZ s1 n1) (fZ s2 n2) = false := by first | exact adN_no3 hr1 hr2 (by assumption) | exact adN_no2 hr1 hr2 (by assumption) | exact adN_no1 hr1 hr2 (by assumption)
        refine z_iconst C 150 dX17_work_149 rfl ?_
        refine z_goto C 154 dX17_work_150 (by decide) ?_
        refine z_iconst C 155 dX17_work_154 rfl ?_
        refine zx_callVN (As := [.int (iI (1)), .int (iI (2))]) (rest := []) C hκ hκl hT 158 (k0_need hT hZ (σ 0 (0)) (true) (2) ⟨by decide, by decide⟩) dX17_work_155 q1809 q1493 qs20 q90 q1494 (zNd_of znX0_need) (Nat.le_of_ble_eq_true rfl) (Nat.le_of_ble_eq_true rfl) (Nat.le_of_ble_eq_true rfl) (Nat.le_of_ble_eq_true rfl) (zrec_P hX100.o) rfl rfl (Nat.le_of_ble_eq_true rfl) rfl (fun v9 Q9 h9 => ?_) (fun E9 b9 Q9 h9 => ?_)
        rotate_left 1
        · skip
          obtain ⟨hnr161, Mr161, rfl, gr161, er161⟩ := h9
          have o162 : Mr161 b = some (.inr (17, [.ref (σ 20 (m)), .ref (σ 0 (0)), .int (iI (x)), .ref (σ 0 (0)), .int (iI (y)), .ref (σ 0 (0))])) := gr161 _ _ o93
          have o163 : Mr161 fr = some (.inr (26, [va_rf (xo σ 30 (xs)), .ref (ar), .ref (out), .int (iI (dp))])) := gr161 _ _ o94
          have o164 : Mr161 out = some (.inr (6, [.int (iI (k1)), .long (lI (b1)), va_rf (t1)])) := gr161 _ _ o95
          have o165 : Mr161 cx9 = some (.inr (6, [.int (iI (cK (w 19 (3 * m + x)))), .long (lI (cB (w 19 (3 * m + x)) (av x))), va_rf (cT σ (w 19 (3 * m + x)) (av x))])) := gr161 _ _ o96
          have o166 : Mr161 cy9 = some (.inr (6, [.int (iI (cK (w 19 (3 * m + y)))), .long (lI (cB (w 19 (3 * m + y)) (av y))), va_rf (cT σ (w 19 (3 * m + y)) (av y))])) := gr161 _ _ o97
          have o167 : Mr161 a6 = some (.inr (6, [.int (iI (tt)), .long (lI ((wdL (av x) (w 19 (3 * m + x)) tt))), va_rf (cT σ (w 19 (3 * m + x)) (av x))])) := gr161 _ _ o103
          have o168 : Mr161 a33 = some (.inr (6, [.int (iI (tt)), .long (lI ((wdL (av y) (w 19 (3 * m + y)) tt))), va_rf (cT σ (w 19 (3 * m + y)) (av y))])) := gr161 _ _ o104
          have o169 : Mr161 ar = some (.inl (θ.2.1 11, 3, xQ g9)) := gr161 _ _ o99
          have hX170 : xM θ σ w (xL w) Mr161 := hX100.ge gr161
          have fx171 : zFx out M Mr161 := fun b9 e9 g9 h9 => gr161 _ _ (fx101 b9 e9 g9 h9)
          refine zx_out C hκ hT XX (fun z9 h9 => by cases h9) (by exfalso; exact hnr161 rfl) (Nat.le_of_ble_eq_true rfl) (Nat.le_of_ble_eq_true rfl)
        obtain ⟨rfl, hnr172, rfl⟩ := h9
        refine z_as (st' := []) rfl rfl rfl ?_
        refine z_widen (n' := 3) (k' := 13) (Nat.le_refl _) (Nat.le_refl _) ?_
        have hnb9 : adB tt (wdL (av x) (w 19 (3 * m + x)) tt) (wdL (av y) (w 19 (3 * m + y)) tt) = false := by unfold adB; rw [e1U, e2U, hN9]; simp
        have hv9 : vf_n64 (FP.dadd (adU tt (wdL (av x) (w 19 (3 * m + x)) tt)) (adU tt (wdL (av y) (w 19 (3 * m + y)) tt))) := by rw [e1U, e2U]; exact dadd_vf hr1 hr2 (adN_ne hr1 hr2 hN9)
        refine z_aload_n C 159 3 dX17_work_158 rfl rfl ?_
        refine z_iload_n C 160 2 dX17_work_159 rfl rfl ?_
        refine z_bipush C 162 dX17_work_160 (by decide) rfl ?_
        refine z_icmp_ne C 182 165 dX17_work_162 (by decide) ⟨by omega, by omega⟩ ⟨by decide, by decide⟩ rfl (fun c173 => ?_) (fun c173 => ?_)
        · skip
          refine z_dload C 184 5 dX17_work_182 rfl rfl ?_
          refine z_dload C 186 6 dX17_work_184 rfl rfl ?_
          refine z_daddE (v := FP.dadd (fZ s1 n1) (fZ s2 n2)) C 187 dX17_work_186 rfl (by rw [← e1U, ← e2U]; exact hv9) rfl ?_
          refine z_callS (As := [.double (FP.dadd (fZ s1 n1) (fZ s2 n2))]) (rest := [.ref (a6)]) C hκ hκl 190 (kD_bits hT (FP.dadd (fZ s1 n1) (fZ s2 n2)) (by rw [← e1U, ← e2U]; exact hv9)) dX17_work_187 q1812 q1561 q134 q1562 znJ16_doubleToLongBits (Nat.le_of_ble_eq_true rfl) (Nat.le_of_ble_eq_true rfl) (Nat.le_of_ble_eq_true rfl) (Nat.le_of_ble_eq_true rfl) rfl (Nat.le_of_ble_eq_true rfl) rfl (fun v9 Q9 h9 => ?_)
          obtain ⟨rfl, rfl⟩ := h9
          refine z_as (st' := [.long ((FP.dadd (fZ s1 n1) (fZ s2 n2)).toInt64), .ref (a6)]) rfl rfl rfl ?_
          rw [show (.long ((FP.dadd (fZ s1 n1) (fZ s2 n2)).toInt64) : Value) = .long (lI (adV tt (wdL (av x) (w 19 (3 * m + x)) tt) (wdL (av y) (w 19 (3 * m + y)) tt))) from (congrArg Value.long (lI_sI _)).trans (congrArg (fun z9 => Value.long (lI z9)) (by unfold adV; rw [if_neg (by omega), if_neg (by omega), if_neg (by omega), e1U, e2U]))]
          refine z_putf (fs' := [.int (iI (tt)), .long (lI (adV tt (wdL (av x) (w 19 (3 * m + x)) tt) (wdL (av y) (w 19 (3 * m + y)) tt))), va_rf (cT σ (w 19 (3 * m + x)) (av x))]) C hκ 193 1 zk_X6 o103 (by decide) q251 (Or.inl rfl) rfl rfl rfl (Nat.le_of_ble_eq_true rfl) rfl dX17_work_190 rfl ?_
          obtain ⟨M13, eM13⟩ : ∃ z9 : zMap, zup M8 a6 (.inr (6, [.int (iI (tt)), .long (lI (adV tt (wdL (av x) (w 19 (3 * m + x)) tt) (wdL (av y) (w 19 (3 * m + y)) tt))), va_rf (cT σ (w 19 (3 * m + x)) (av x))]) : va_E) = z9 := ⟨_, rfl⟩
          rw [eM13]
          have o174 : M13 b = some (.inr (17, [.ref (σ 20 (m)), .ref (σ 0 (0)), .int (iI (x)), .ref (σ 0 (0)), .int (iI (y)), .ref (σ 0 (0))])) := eM13 ▸ (zup_n ne7).trans o93
          have o175 : M13 fr = some (.inr (26, [va_rf (xo σ 30 (xs)), .ref (ar), .ref (out), .int (iI (dp))])) := eM13 ▸ (zup_n ne8).trans o94
          have o176 : M13 out = some (.inr (6, [.int (iI (k1)), .long (lI (b1)), va_rf (t1)])) := eM13 ▸ (zup_n ne9).trans o95
          have o177 : M13 cx9 = some (.inr (6, [.int (iI (cK (w 19 (3 * m + x)))), .long (lI (cB (w 19 (3 * m + x)) (av x))), va_rf (cT σ (w 19 (3 * m + x)) (av x))])) := eM13 ▸ (zup_n ne10).trans o96
          have o178 : M13 cy9 = some (.inr (6, [.int (iI (cK (w 19 (3 * m + y)))), .long (lI (cB (w 19 (3 * m + y)) (av y))), va_rf (cT σ (w 19 (3 * m + y)) (av y))])) := eM13 ▸ (zup_n ne11).trans o97
          have o179 : M13 a33 = some (.inr (6, [.int (iI (tt)), .long (lI ((wdL (av y) (w 19 (3 * m + y)) tt))), va_rf (cT σ (w 19 (3 * m + y)) (av y))])) := eM13 ▸ (zup_n (fun z9 => ne39 z9.symm)).trans o104
          have o180 : M13 ar = some (.inl (θ.2.1 11, 3, xQ g9)) := eM13 ▸ (zup_n ne12).trans o99
          have hX181 : xM θ σ w (xL w) M13 := eM13 ▸ hX100.up fr13
          have fx182 : zFx out M M13 := eM13 ▸ fx101.up (Or.inl no14)
          have o183 : M13 a6 = some (.inr (6, [.int (iI (tt)), .long (lI (adV tt (wdL (av x) (w 19 (3 * m + x)) tt) (wdL (av y) (w 19 (3 * m + y)) tt))), va_rf (cT σ (w 19 (3 * m + x)) (av x))])) := eM13 ▸ zup_s
          have hnv9 : nmOk tt (adV tt (wdL (av x) (w 19 (3 * m + x)) tt) (wdL (av y) (w 19 (3 * m + y)) tt)) := adV_nm (fun _ => hv9)
          refine z_aload_n C 194 0 dX17_work_193 rfl rfl ?_
          refine z_aload_n C 195 1 dX17_work_194 rfl rfl ?_
          refine z_aload_n C 196 3 dX17_work_195 rfl rfl ?_
          refine z_callU (owner := RX10) (As := [.ref (fr), .ref (a6)]) (rest := []) C hκ hκl 199 (k10_gives_17 hX181 hs hw hT (b) (m) (x) (y) (fr) (xo σ 30 (xs)) (ar) (out) (dp) (k1) (b1) (t1) (a6) (tt) (adV tt (wdL (av x) (w 19 (3 * m + x)) tt) (wdL (av y) (w 19 (3 * m + y)) tt)) (cT σ (w 19 (3 * m + x)) (av x)) o174 ⟨by omega, by omega⟩ r_x r_y r_dp o175 o176 hOf o183 ne9 hnv9 ⟨by omega, by omega⟩ ⟨by omega, by omega⟩ ⟨by omega, by omega⟩) dX17_work_196 q1813 q1814 q1815 q1786 q104 q1787 rfl ⟨by decide, by decide, rfl⟩ (Nat.le_of_ble_eq_true rfl) (Nat.le_of_ble_eq_true rfl) (Nat.le_of_ble_eq_true rfl) (Nat.le_of_ble_eq_true rfl) (zrec_P o174) rfl rfl (Nat.le_of_ble_eq_true rfl) rfl (fun v9 Q9 h9 => ?_)
          obtain ⟨rfl, rfl⟩ := h9
          obtain ⟨M14, eM14⟩ : ∃ z9 : zMap, zup M13 out (.inr (6, [.int (iI (gvK (w 17 (m)) (suI (xpI w (m) (x)) (xpI w (m) (y))) (tt))), .long (lI (gvB (w 17 (m)) (suI (xpI w (m) (x)) (xpI w (m) (y))) (tt) (adV tt (wdL (av x) (w 19 (3 * m + x)) tt) (wdL (av y) (w 19 (3 * m + y)) tt)))), va_rf (gvT (w 17 (m)) (suI (xpI w (m) (x)) (xpI w (m) (y))) (cT σ (w 19 (3 * m + x)) (av x)))]) : va_E) = z9 := ⟨_, rfl⟩
          rw [eM14]
          have o184 : M14 b = some (.inr (17, [.ref (σ 20 (m)), .ref (σ 0 (0)), .int (iI (x)), .ref (σ 0 (0)), .int (iI (y)), .ref (σ 0 (0))])) := eM14 ▸ (zup_n ne2).trans o174
          have o185 : M14 fr = some (.inr (26, [va_rf (xo σ 30 (xs)), .ref (ar), .ref (out), .int (iI (dp))])) := eM14 ▸ (zup_n ne3).trans o175
          have o186 : M14 cx9 = some (.inr (6, [.int (iI (cK (w 19 (3 * m + x)))), .long (lI (cB (w 19 (3 * m + x)) (av x))), va_rf (cT σ (w 19 (3 * m + x)) (av x))])) := eM14 ▸ (zup_n (fun z9 => (fun z9 => hnx9 z9.symm) z9.symm)).trans o177
          have o187 : M14 cy9 = some (.inr (6, [.int (iI (cK (w 19 (3 * m + y)))), .long (lI (cB (w 19 (3 * m + y)) (av y))), va_rf (cT σ (w 19 (3 * m + y)) (av y))])) := eM14 ▸ (zup_n (fun z9 => (fun z9 => hny9 z9.symm) z9.symm)).trans o178
          have o188 : M14 a6 = some (.inr (6, [.int (iI (tt)), .long (lI (adV tt (wdL (av x) (w 19 (3 * m + x)) tt) (wdL (av y) (w 19 (3 * m + y)) tt))), va_rf (cT σ (w 19 (3 * m + x)) (av x))])) := eM14 ▸ (zup_n (fun z9 => ne9 z9.symm)).trans o183
          have o189 : M14 a33 = some (.inr (6, [.int (iI (tt)), .long (lI ((wdL (av y) (w 19 (3 * m + y)) tt))), va_rf (cT σ (w 19 (3 * m + y)) (av y))])) := eM14 ▸ (zup_n (fun z9 => ne36 z9.symm)).trans o179
          have o190 : M14 ar = some (.inl (θ.2.1 11, 3, xQ g9)) := eM14 ▸ (zup_n ne4).trans o180
          have hX191 : xM θ σ w (xL w) M14 := eM14 ▸ hX181.up hOf
          have fx192 : zFx out M M14 := eM14 ▸ fx182.up (Or.inr rfl)
          have o193 : M14 out = some (.inr (6, [.int (iI (gvK (w 17 (m)) (suI (xpI w (m) (x)) (xpI w (m) (y))) (tt))), .long (lI (gvB (w 17 (m)) (suI (xpI w (m) (x)) (xpI w (m) (y))) (tt) (adV tt (wdL (av x) (w 19 (3 * m + x)) tt) (wdL (av y) (w 19 (3 * m + y)) tt)))), va_rf (gvT (w 17 (m)) (suI (xpI w (m) (x)) (xpI w (m) (y))) (cT σ (w 19 (3 * m + x)) (av x)))])) := eM14 ▸ zup_s
          refine z_as (st' := []) rfl rfl rfl ?_
          exact z_vret C dX17_work_199 (Nat.le_of_ble_eq_true rfl) (Nat.le_of_ble_eq_true rfl) ⟨rfl, (by rw [ett]; exact hnb9), M14, rfl, hX191, (by rw [ett]; have h9 := o193; rw [ett] at h9; exact h9), xKp.of fx192⟩
        · skip
          refine z_aload_n C 166 3 dX17_work_165 rfl rfl ?_
          refine z_callV (As := []) (rest := [.ref (a6)]) C hκ hκl 169 (k6_single hT (a6) (tt) ((wdL (av x) (w 19 (3 * m + x)) tt)) (cT σ (w 19 (3 * m + x)) (av x)) o103 hmx9 ⟨by omega, by omega⟩) dX17_work_166 q1810 q1608 q1609 q96 q1610 znX6_single (Nat.le_of_ble_eq_true rfl) (Nat.le_of_ble_eq_true rfl) (Nat.le_of_ble_eq_true rfl) (Nat.le_of_ble_eq_true rfl) (zrec_P o103) rfl rfl (Nat.le_of_ble_eq_true rfl) rfl (fun v9 Q9 h9 => ?_)
          obtain ⟨rfl, rfl⟩ := h9
          refine z_as (st' := [.float (sgF (tt) ((wdL (av x) (w 19 (3 * m + x)) tt))), .ref (a6)]) rfl rfl rfl ?_
          refine z_aload C 171 4 dX17_work_169 rfl rfl ?_
          refine z_callV (As := []) (rest := [.float (sgF (tt) ((wdL (av x) (w 19 (3 * m + x)) tt))), .ref (a6)]) C hκ hκl 174 (k6_single hT (a33) (tt) ((wdL (av y) (w 19 (3 * m + y)) tt)) (cT σ (w 19 (3 * m + y)) (av y)) o104 hmy9 ⟨by omega, by omega⟩) dX17_work_171 q1810 q1608 q1609 q96 q1610 znX6_single (Nat.le_of_ble_eq_true rfl) (Nat.le_of_ble_eq_true rfl) (Nat.le_of_ble_eq_true rfl) (Nat.le_of_ble_eq_true rfl) (zrec_P o104) rfl rfl (Nat.le_of_ble_eq_true rfl) rfl (fun v9 Q9 h9 => ?_)
          obtain ⟨rfl, rfl⟩ := h9
          refine z_as (st' := [.float (sgF (tt) ((wdL (av y) (w 19 (3 * m + y)) tt))), .float (sgF (tt) ((wdL (av x) (w 19 (3 * m + x)) tt))), .ref (a6)]) rfl rfl rfl ?_
          have e69 : tt = 6 := by omega
          have hsx9 : sgF tt (wdL (av x) (w 19 (3 * m + x)) tt) = U32 (wdL (av x) (w 19 (3 * m + x)) tt) := by unfold sgF; rw [if_pos e69]
          have hsy9 : sgF tt (wdL (av y) (w 19 (3 * m + y)) tt) = U32 (wdL (av y) (w 19 (3 * m + y)) tt) := by unfold sgF; rw [if_pos e69]
          have hgx9 := sgF_vf hmx9
          have hgy9 := sgF_vf hmy9
          rw [hsx9] at hgx9
          rw [hsy9] at hgy9
          have hfa9 : FP.fadd (sgF tt (wdL (av x) (w 19 (3 * m + x)) tt)) (sgF tt (wdL (av y) (w 19 (3 * m + y)) tt)) = FP.d2f (FP.dadd (adU tt (wdL (av x) (w 19 (3 * m + x)) tt)) (adU tt (wdL (av y) (w 19 (3 * m + y)) tt))) := by rw [hsx9, hsy9]; have h9 := fadd_adV hgx9 hgy9 (by rw [← e69, e1U, e2U]; exact hN9); rw [← e69] at h9; exact h9
          refine z_faddE (v := FP.d2f (FP.dadd (adU tt (wdL (av x) (w 19 (3 * m + x)) tt)) (adU tt (wdL (av y) (w 19 (3 * m + y)) tt)))) C 175 dX17_work_174 hfa9 (d2f_vg hv9) rfl ?_
          refine z_callS (As := [.float (FP.d2f (FP.dadd (adU tt (wdL (av x) (w 19 (3 * m + x)) tt)) (adU tt (wdL (av y) (w 19 (3 * m + y)) tt))))]) (rest := [.ref (a6)]) C hκ hκl 178 (kF_bits hT (FP.d2f (FP.dadd (adU tt (wdL (av x) (w 19 (3 * m + x)) tt)) (adU tt (wdL (av y) (w 19 (3 * m + y)) tt)))) (d2f_vg hv9)) dX17_work_175 q1811 q1548 q133 q1549 znJ15_floatToIntBits (Nat.le_of_ble_eq_true rfl) (Nat.le_of_ble_eq_true rfl) (Nat.le_of_ble_eq_true rfl) (Nat.le_of_ble_eq_true rfl) rfl (Nat.le_of_ble_eq_true rfl) rfl (fun v9 Q9 h9 => ?_)
          obtain ⟨rfl, rfl⟩ := h9
          refine z_as (st' := [.int ((FP.d2f (FP.dadd (adU tt (wdL (av x) (w 19 (3 * m + x)) tt)) (adU tt (wdL (av y) (w 19 (3 * m + y)) tt)))).toInt32), .ref (a6)]) rfl rfl rfl ?_
          rw [show (.int ((FP.d2f (FP.dadd (adU tt (wdL (av x) (w 19 (3 * m + x)) tt)) (adU tt (wdL (av y) (w 19 (3 * m + y)) tt)))).toInt32) : Value) = .int (iI (sJ (FP.d2f (FP.dadd (adU tt (wdL (av x) (w 19 (3 * m + x)) tt)) (adU tt (wdL (av y) (w 19 (3 * m + y)) tt)))))) from congrArg Value.int (iI_sJ _)]
          refine z_i2l C 179 dX17_work_178 (sJ_R _) rfl ?_
          refine z_goto C 190 dX17_work_179 (by decide) ?_
          rw [show (.long (lI (sJ (FP.d2f (FP.dadd (adU tt (wdL (av x) (w 19 (3 * m + x)) tt)) (adU tt (wdL (av y) (w 19 (3 * m + y)) tt)))))) : Value) = .long (lI (adV tt (wdL (av x) (w 19 (3 * m + x)) tt) (wdL (av y) (w 19 (3 * m + y)) tt))) from congrArg (fun z9 => Value.long (lI z9)) (by unfold adV; rw [if_neg (by omega), if_neg (by omega), if_pos (by omega)])]
          refine z_putf (fs' := [.int (iI (tt)), .long (lI (adV tt (wdL (av x) (w 19 (3 * m + x)) tt) (wdL (av y) (w 19 (3 * m + y)) tt))), va_rf (cT σ (w 19 (3 * m + x)) (av x))]) C hκ 193 1 zk_X6 o103 (by decide) q251 (Or.inl rfl) rfl rfl rfl (Nat.le_of_ble_eq_true rfl) rfl dX17_work_190 rfl ?_
          obtain ⟨M15, eM15⟩ : ∃ z9 : zMap, zup M8 a6 (.inr (6, [.int (iI (tt)), .long (lI (adV tt (wdL (av x) (w 19 (3 * m + x)) tt) (wdL (av y) (w 19 (3 * m + y)) tt))), va_rf (cT σ (w 19 (3 * m + x)) (av x))]) : va_E) = z9 := ⟨_, rfl⟩
          rw [eM15]
          have o194 : M15 b = some (.inr (17, [.ref (σ 20 (m)), .ref (σ 0 (0)), .int (iI (x)), .ref (σ 0 (0)), .int (iI (y)), .ref (σ 0 (0))])) := eM15 ▸ (zup_n ne7).trans o93
          have o195 : M15 fr = some (.inr (26, [va_rf (xo σ 30 (xs)), .ref (ar), .ref (out), .int (iI (dp))])) := eM15 ▸ (zup_n ne8).trans o94
          have o196 : M15 out = some (.inr (6, [.int (iI (k1)), .long (lI (b1)), va_rf (t1)])) := eM15 ▸ (zup_n ne9).trans o95
          have o197 : M15 cx9 = some (.inr (6, [.int (iI (cK (w 19 (3 * m + x)))), .long (lI (cB (w 19 (3 * m + x)) (av x))), va_rf (cT σ (w 19 (3 * m + x)) (av x))])) := eM15 ▸ (zup_n ne10).trans o96
          have o198 : M15 cy9 = some (.inr (6, [.int (iI (cK (w 19 (3 * m + y)))), .long (lI (cB (w 19 (3 * m + y)) (av y))), va_rf (cT σ (w 19 (3 * m + y)) (av y))])) := eM15 ▸ (zup_n ne11).trans o97
          have o199 : M15 a33 = some (.inr (6, [.int (iI (tt)), .long (lI ((wdL (av y) (w 19 (3 * m + y)) tt))), va_rf (cT σ (w 19 (3 * m + y)) (av y))])) := eM15 ▸ (zup_n (fun z9 => ne39 z9.symm)).trans o104
          have o200 : M15 ar = some (.inl (θ.2.1 11, 3, xQ g9)) := eM15 ▸ (zup_n ne12).trans o99
          have hX201 : xM θ σ w (xL w) M15 := eM15 ▸ hX100.up fr13
          have fx202 : zFx out M M15 := eM15 ▸ fx101.up (Or.inl no14)
          have o203 : M15 a6 = some (.inr (6, [.int (iI (tt)), .long (lI (adV tt (wdL (av x) (w 19 (3 * m + x)) tt) (wdL (av y) (w 19 (3 * m + y)) tt))), va_rf (cT σ (w 19 (3 * m + x)) (av x))])) := eM15 ▸ zup_s
          have hnv9 : nmOk tt (adV tt (wdL (av x) (w 19 (3 * m + x)) tt) (wdL (av y) (w 19 (3 * m + y)) tt)) := adV_nm (fun _ => hv9)
          refine z_aload_n C 194 0 dX17_work_193 rfl rfl ?_
          refine z_aload_n C 195 1 dX17_work_194 rfl rfl ?_
          refine z_aload_n C 196 3 dX17_work_195 rfl rfl ?_
          refine z_callU (owner := RX10) (As := [.ref (fr), .ref (a6)]) (rest := []) C hκ hκl 199 (k10_gives_17 hX201 hs hw hT (b) (m) (x) (y) (fr) (xo σ 30 (xs)) (ar) (out) (dp) (k1) (b1) (t1) (a6) (tt) (adV tt (wdL (av x) (w 19 (3 * m + x)) tt) (wdL (av y) (w 19 (3 * m + y)) tt)) (cT σ (w 19 (3 * m + x)) (av x)) o194 ⟨by omega, by omega⟩ r_x r_y r_dp o195 o196 hOf o203 ne9 hnv9 ⟨by omega, by omega⟩ ⟨by omega, by omega⟩ ⟨by omega, by omega⟩) dX17_work_196 q1813 q1814 q1815 q1786 q104 q1787 rfl ⟨by decide, by decide, rfl⟩ (Nat.le_of_ble_eq_true rfl) (Nat.le_of_ble_eq_true rfl) (Nat.le_of_ble_eq_true rfl) (Nat.le_of_ble_eq_true rfl) (zrec_P o194) rfl rfl (Nat.le_of_ble_eq_true rfl) rfl (fun v9 Q9 h9 => ?_)
          obtain ⟨rfl, rfl⟩ := h9
          obtain ⟨M16, eM16⟩ : ∃ z9 : zMap, zup M15 out (.inr (6, [.int (iI (gvK (w 17 (m)) (suI (xpI w (m) (x)) (xpI w (m) (y))) (tt))), .long (lI (gvB (w 17 (m)) (suI (xpI w (m) (x)) (xpI w (m) (y))) (tt) (adV tt (wdL (av x) (w 19 (3 * m + x)) tt) (wdL (av y) (w 19 (3 * m + y)) tt)))), va_rf (gvT (w 17 (m)) (suI (xpI w (m) (x)) (xpI w (m) (y))) (cT σ (w 19 (3 * m + x)) (av x)))]) : va_E) = z9 := ⟨_, rfl⟩
          rw [eM16]
          have o204 : M16 b = some (.inr (17, [.ref (σ 20 (m)), .ref (σ 0 (0)), .int (iI (x)), .ref (σ 0 (0)), .int (iI (y)), .ref (σ 0 (0))])) := eM16 ▸ (zup_n ne2).trans o194
          have o205 : M16 fr = some (.inr (26, [va_rf (xo σ 30 (xs)), .ref (ar), .ref (out), .int (iI (dp))])) := eM16 ▸ (zup_n ne3).trans o195
          have o206 : M16 cx9 = some (.inr (6, [.int (iI (cK (w 19 (3 * m + x)))), .long (lI (cB (w 19 (3 * m + x)) (av x))), va_rf (cT σ (w 19 (3 * m + x)) (av x))])) := eM16 ▸ (zup_n (fun z9 => (fun z9 => hnx9 z9.symm) z9.symm)).trans o197
          have o207 : M16 cy9 = some (.inr (6, [.int (iI (cK (w 19 (3 * m + y)))), .long (lI (cB (w 19 (3 * m + y)) (av y))), va_rf (cT σ (w 19 (3 * m + y)) (av y))])) := eM16 ▸ (zup_n (fun z9 => (fun z9 => hny9 z9.symm) z9.symm)).trans o198
          have o208 : M16 a6 = some (.inr (6, [.int (iI (tt)), .long (lI (adV tt (wdL (av x) (w 19 (3 * m + x)) tt) (wdL (av y) (w 19 (3 * m + y)) tt))), va_rf (cT σ (w 19 (3 * m + x)) (av x))])) := eM16 ▸ (zup_n (fun z9 => ne9 z9.symm)).trans o203
          have o209 : M16 a33 = some (.inr (6, [.int (iI (tt)), .long (lI ((wdL (av y) (w 19 (3 * m + y)) tt))), va_rf (cT σ (w 19 (3 * m + y)) (av y))])) := eM16 ▸ (zup_n (fun z9 => ne36 z9.symm)).trans o199
          have o210 : M16 ar = some (.inl (θ.2.1 11, 3, xQ g9)) := eM16 ▸ (zup_n ne4).trans o200
          have hX211 : xM θ σ w (xL w) M16 := eM16 ▸ hX201.up hOf
          have fx212 : zFx out M M16 := eM16 ▸ fx202.up (Or.inr rfl)
          have o213 : M16 out = some (.inr (6, [.int (iI (gvK (w 17 (m)) (suI (xpI w (m) (x)) (xpI w (m) (y))) (tt))), .long (lI (gvB (w 17 (m)) (suI (xpI w (m) (x)) (xpI w (m) (y))) (tt) (adV tt (wdL (av x) (w 19 (3 * m + x)) tt) (wdL (av y) (w 19 (3 * m + y)) tt)))), va_rf (gvT (w 17 (m)) (suI (xpI w (m) (x)) (xpI w (m) (y))) (cT σ (w 19 (3 * m + x)) (av x)))])) := eM16 ▸ zup_s
          refine z_as (st' := []) rfl rfl rfl ?_
          exact z_vret C dX17_work_199 (Nat.le_of_ble_eq_true rfl) (Nat.le_of_ble_eq_true rfl) ⟨rfl, (by rw [ett]; exact hnb9), M16, rfl, hX211, (by rw [ett]; have h9 := o213; rw [ett] at h9; exact h9), xKp.of fx212⟩
      · skip
        refine z_aload_n C 141 0 dX17_work_140 rfl rfl ?_
        refine z_dload C 143 5 dX17_work_141 rfl rfl ?_
        refine z_callV (As := [.double (fZ s1 n1)]) (rest := [.ref (σ 0 (0))]) C hκ hκl 146 (k17_isEndless_17 hX100 hs hw hT (b) (m) (x) (y) (s1) (n1) o93 ⟨by omega, by omega⟩ r_x r_y hr1) dX17_work_143 q1803 q1805 qs31 q111 q1806 znX17_isEndless (Nat.le_of_ble_eq_true rfl) (Nat.le_of_ble_eq_true rfl) (Nat.le_of_ble_eq_true rfl) (Nat.le_of_ble_eq_true rfl) (zrec_P o93) rfl rfl (Nat.le_of_ble_eq_true rfl) rfl (fun v9 Q9 h9 => ?_)
        obtain ⟨rfl, rfl⟩ := h9
        refine z_as (st' := [.int (iI (bI (decide ((n1) = fTop)))), .ref (σ 0 (0))]) rfl rfl rfl ?_
        refine z_ifB_ne C 153 149 dX17_work_146 (by decide) rfl (fun c214 => ?_) (fun c214 => ?_)
        · skip
          have c214b : (((n1) = fTop)) := of_decide_eq_true c214
          have hN9 : adN (fZ s1 n1) (fZ s2 n2) = true := adN_yes hr1 hr2 (by assumption) (by assumption) (by assumption)
          have hyb9 : adB tt (wdL (av x) (w 19 (3 * m + x)) tt) (wdL (av y) (w 19 (3 * m + y)) tt) = true := by unfold adB; rw [e1U, e2U, hN9, decide_eq_true (by omega)]; rfl
          refine z_iconst C 154 dX17_work_153 rfl ?_
          refine z_iconst C 155 dX17_work_154 rfl ?_
          refine zx_callVN (As := [.int (iI (0)), .int (iI (2))]) (rest := []) C hκ hκl hT 158 (k0_need hT hZ (σ 0 (0)) (false) (2) ⟨by decide, by decide⟩) dX17_work_155 q1809 q1493 qs20 q90 q1494 (zNd_of znX0_need) (Nat.le_of_ble_eq_true rfl) (Nat.le_of_ble_eq_true rfl) (Nat.le_of_ble_eq_true rfl) (Nat.le_of_ble_eq_true rfl) (zrec_P hX100.o) rfl rfl (Nat.le_of_ble_eq_true rfl) rfl (fun v9 Q9 h9 => ?_) (fun E9 b9 Q9 h9 => ?_)
          rotate_left 1
          · skip
            obtain ⟨hnr215, Mr215, rfl, gr215, er215⟩ := h9
            have o216 : Mr215 b = some (.inr (17, [.ref (σ 20 (m)), .ref (σ 0 (0)), .int (iI (x)), .ref (σ 0 (0)), .int (iI (y)), .ref (σ 0 (0))])) := gr215 _ _ o93
            have o217 : Mr215 fr = some (.inr (26, [va_rf (xo σ 30 (xs)), .ref (ar), .ref (out), .int (iI (dp))])) := gr215 _ _ o94
            have o218 : Mr215 out = some (.inr (6, [.int (iI (k1)), .long (lI (b1)), va_rf (t1)])) := gr215 _ _ o95
            have o219 : Mr215 cx9 = some (.inr (6, [.int (iI (cK (w 19 (3 * m + x)))), .long (lI (cB (w 19 (3 * m + x)) (av x))), va_rf (cT σ (w 19 (3 * m + x)) (av x))])) := gr215 _ _ o96
            have o220 : Mr215 cy9 = some (.inr (6, [.int (iI (cK (w 19 (3 * m + y)))), .long (lI (cB (w 19 (3 * m + y)) (av y))), va_rf (cT σ (w 19 (3 * m + y)) (av y))])) := gr215 _ _ o97
            have o221 : Mr215 a6 = some (.inr (6, [.int (iI (tt)), .long (lI ((wdL (av x) (w 19 (3 * m + x)) tt))), va_rf (cT σ (w 19 (3 * m + x)) (av x))])) := gr215 _ _ o103
            have o222 : Mr215 a33 = some (.inr (6, [.int (iI (tt)), .long (lI ((wdL (av y) (w 19 (3 * m + y)) tt))), va_rf (cT σ (w 19 (3 * m + y)) (av y))])) := gr215 _ _ o104
            have o223 : Mr215 ar = some (.inl (θ.2.1 11, 3, xQ g9)) := gr215 _ _ o99
            have hX224 : xM θ σ w (xL w) Mr215 := hX100.ge gr215
            have fx225 : zFx out M Mr215 := fun b9 e9 g9 h9 => gr215 _ _ (fx101 b9 e9 g9 h9)
            refine zx_out C hκ hT XX (fun z9 h9 => by cases h9) ⟨Mr215, 2, rfl, hX224, ⟨rfl, (by rw [ett]; exact hyb9)⟩, by decide, Or.inl er215, xKp.of fx225⟩ (Nat.le_of_ble_eq_true rfl) (Nat.le_of_ble_eq_true rfl)
          obtain ⟨rfl, hnr226, rfl⟩ := h9
          refine z_as (st' := []) rfl rfl rfl ?_
          refine z_widen (n' := 3) (k' := 13) (Nat.le_refl _) (Nat.le_refl _) ?_
          exact absurd hnr226 (by decide)
        · skip
          have c214b : ¬ (((n1) = fTop)) := of_decide_eq_false c214
          have hN9 : adN (fZ s1 n1) (fZ s2 n2) = false := by first | exact adN_no3 hr1 hr2 (by assumption) | exact adN_no2 hr1 hr2 (by assumption) | exact adN_no1 hr1 hr2 (by assumption)
          refine z_iconst C 150 dX17_work_149 rfl ?_
          refine z_goto C 154 dX17_work_150 (by decide) ?_
          refine z_iconst C 155 dX17_work_154 rfl ?_
          refine zx_callVN (As := [.int (iI (1)), .int (iI (2))]) (rest := []) C hκ hκl hT 158 (k0_need hT hZ (σ 0 (0)) (true) (2) ⟨by decide, by decide⟩) dX17_work_155 q1809 q1493 qs20 q90 q1494 (zNd_of znX0_need) (Nat.le_of_ble_eq_true rfl) (Nat.le_of_ble_eq_true rfl) (Nat.le_of_ble_eq_true rfl) (Nat.le_of_ble_eq_true rfl) (zrec_P hX100.o) rfl rfl (Nat.le_of_ble_eq_true rfl) rfl (fun v9 Q9 h9 => ?_) (fun E9 b9 Q9 h9 => ?_)
          rotate_left 1
          · skip
            obtain ⟨hnr227, Mr227, rfl, gr227, er227⟩ := h9
            have o228 : Mr227 b = some (.inr (17, [.ref (σ 20 (m)), .ref (σ 0 (0)), .int (iI (x)), .ref (σ 0 (0)), .int (iI (y)), .ref (σ 0 (0))])) := gr227 _ _ o93
            have o229 : Mr227 fr = some (.inr (26, [va_rf (xo σ 30 (xs)), .ref (ar), .ref (out), .int (iI (dp))])) := gr227 _ _ o94
            have o230 : Mr227 out = some (.inr (6, [.int (iI (k1)), .long (lI (b1)), va_rf (t1)])) := gr227 _ _ o95
            have o231 : Mr227 cx9 = some (.inr (6, [.int (iI (cK (w 19 (3 * m + x)))), .long (lI (cB (w 19 (3 * m + x)) (av x))), va_rf (cT σ (w 19 (3 * m + x)) (av x))])) := gr227 _ _ o96
            have o232 : Mr227 cy9 = some (.inr (6, [.int (iI (cK (w 19 (3 * m + y)))), .long (lI (cB (w 19 (3 * m + y)) (av y))), va_rf (cT σ (w 19 (3 * m + y)) (av y))])) := gr227 _ _ o97
            have o233 : Mr227 a6 = some (.inr (6, [.int (iI (tt)), .long (lI ((wdL (av x) (w 19 (3 * m + x)) tt))), va_rf (cT σ (w 19 (3 * m + x)) (av x))])) := gr227 _ _ o103
            have o234 : Mr227 a33 = some (.inr (6, [.int (iI (tt)), .long (lI ((wdL (av y) (w 19 (3 * m + y)) tt))), va_rf (cT σ (w 19 (3 * m + y)) (av y))])) := gr227 _ _ o104
            have o235 : Mr227 ar = some (.inl (θ.2.1 11, 3, xQ g9)) := gr227 _ _ o99
            have hX236 : xM θ σ w (xL w) Mr227 := hX100.ge gr227
            have fx237 : zFx out M Mr227 := fun b9 e9 g9 h9 => gr227 _ _ (fx101 b9 e9 g9 h9)
            refine zx_out C hκ hT XX (fun z9 h9 => by cases h9) (by exfalso; exact hnr227 rfl) (Nat.le_of_ble_eq_true rfl) (Nat.le_of_ble_eq_true rfl)
          obtain ⟨rfl, hnr238, rfl⟩ := h9
          refine z_as (st' := []) rfl rfl rfl ?_
          refine z_widen (n' := 3) (k' := 13) (Nat.le_refl _) (Nat.le_refl _) ?_
          have hnb9 : adB tt (wdL (av x) (w 19 (3 * m + x)) tt) (wdL (av y) (w 19 (3 * m + y)) tt) = false := by unfold adB; rw [e1U, e2U, hN9]; simp
          have hv9 : vf_n64 (FP.dadd (adU tt (wdL (av x) (w 19 (3 * m + x)) tt)) (adU tt (wdL (av y) (w 19 (3 * m + y)) tt))) := by rw [e1U, e2U]; exact dadd_vf hr1 hr2 (adN_ne hr1 hr2 hN9)
          refine z_aload_n C 159 3 dX17_work_158 rfl rfl ?_
          refine z_iload_n C 160 2 dX17_work_159 rfl rfl ?_
          refine z_bipush C 162 dX17_work_160 (by decide) rfl ?_
          refine z_icmp_ne C 182 165 dX17_work_162 (by decide) ⟨by omega, by omega⟩ ⟨by decide, by decide⟩ rfl (fun c239 => ?_) (fun c239 => ?_)
          · skip
            refine z_dload C 184 5 dX17_work_182 rfl rfl ?_
            refine z_dload C 186 6 dX17_work_184 rfl rfl ?_
            refine z_daddE (v := FP.dadd (fZ s1 n1) (fZ s2 n2)) C 187 dX17_work_186 rfl (by rw [← e1U, ← e2U]; exact hv9) rfl ?_
            refine z_callS (As := [.double (FP.dadd (fZ s1 n1) (fZ s2 n2))]) (rest := [.ref (a6)]) C hκ hκl 190 (kD_bits hT (FP.dadd (fZ s1 n1) (fZ s2 n2)) (by rw [← e1U, ← e2U]; exact hv9)) dX17_work_187 q1812 q1561 q134 q1562 znJ16_doubleToLongBits (Nat.le_of_ble_eq_true rfl) (Nat.le_of_ble_eq_true rfl) (Nat.le_of_ble_eq_true rfl) (Nat.le_of_ble_eq_true rfl) rfl (Nat.le_of_ble_eq_true rfl) rfl (fun v9 Q9 h9 => ?_)
            obtain ⟨rfl, rfl⟩ := h9
            refine z_as (st' := [.long ((FP.dadd (fZ s1 n1) (fZ s2 n2)).toInt64), .ref (a6)]) rfl rfl rfl ?_
            rw [show (.long ((FP.dadd (fZ s1 n1) (fZ s2 n2)).toInt64) : Value) = .long (lI (adV tt (wdL (av x) (w 19 (3 * m + x)) tt) (wdL (av y) (w 19 (3 * m + y)) tt))) from (congrArg Value.long (lI_sI _)).trans (congrArg (fun z9 => Value.long (lI z9)) (by unfold adV; rw [if_neg (by omega), if_neg (by omega), if_neg (by omega), e1U, e2U]))]
            refine z_putf (fs' := [.int (iI (tt)), .long (lI (adV tt (wdL (av x) (w 19 (3 * m + x)) tt) (wdL (av y) (w 19 (3 * m + y)) tt))), va_rf (cT σ (w 19 (3 * m + x)) (av x))]) C hκ 193 1 zk_X6 o103 (by decide) q251 (Or.inl rfl) rfl rfl rfl (Nat.le_of_ble_eq_true rfl) rfl dX17_work_190 rfl ?_
            obtain ⟨M17, eM17⟩ : ∃ z9 : zMap, zup M8 a6 (.inr (6, [.int (iI (tt)), .long (lI (adV tt (wdL (av x) (w 19 (3 * m + x)) tt) (wdL (av y) (w 19 (3 * m + y)) tt))), va_rf (cT σ (w 19 (3 * m + x)) (av x))]) : va_E) = z9 := ⟨_, rfl⟩
            rw [eM17]
            have o240 : M17 b = some (.inr (17, [.ref (σ 20 (m)), .ref (σ 0 (0)), .int (iI (x)), .ref (σ 0 (0)), .int (iI (y)), .ref (σ 0 (0))])) := eM17 ▸ (zup_n ne7).trans o93
            have o241 : M17 fr = some (.inr (26, [va_rf (xo σ 30 (xs)), .ref (ar), .ref (out), .int (iI (dp))])) := eM17 ▸ (zup_n ne8).trans o94
            have o242 : M17 out = some (.inr (6, [.int (iI (k1)), .long (lI (b1)), va_rf (t1)])) := eM17 ▸ (zup_n ne9).trans o95
            have o243 : M17 cx9 = some (.inr (6, [.int (iI (cK (w 19 (3 * m + x)))), .long (lI (cB (w 19 (3 * m + x)) (av x))), va_rf (cT σ (w 19 (3 * m + x)) (av x))])) := eM17 ▸ (zup_n ne10).trans o96
            have o244 : M17 cy9 = some (.inr (6, [.int (iI (cK (w 19 (3 * m + y)))), .long (lI (cB (w 19 (3 * m + y)) (av y))), va_rf (cT σ (w 19 (3 * m + y)) (av y))])) := eM17 ▸ (zup_n ne11).trans o97
            have o245 : M17 a33 = some (.inr (6, [.int (iI (tt)), .long (lI ((wdL (av y) (w 19 (3 * m + y)) tt))), va_rf (cT σ (w 19 (3 * m + y)) (av y))])) := eM17 ▸ (zup_n (fun z9 => ne39 z9.symm)).trans o104
            have o246 : M17 ar = some (.inl (θ.2.1 11, 3, xQ g9)) := eM17 ▸ (zup_n ne12).trans o99
            have hX247 : xM θ σ w (xL w) M17 := eM17 ▸ hX100.up fr13
            have fx248 : zFx out M M17 := eM17 ▸ fx101.up (Or.inl no14)
            have o249 : M17 a6 = some (.inr (6, [.int (iI (tt)), .long (lI (adV tt (wdL (av x) (w 19 (3 * m + x)) tt) (wdL (av y) (w 19 (3 * m + y)) tt))), va_rf (cT σ (w 19 (3 * m + x)) (av x))])) := eM17 ▸ zup_s
            have hnv9 : nmOk tt (adV tt (wdL (av x) (w 19 (3 * m + x)) tt) (wdL (av y) (w 19 (3 * m + y)) tt)) := adV_nm (fun _ => hv9)
            refine z_aload_n C 194 0 dX17_work_193 rfl rfl ?_
            refine z_aload_n C 195 1 dX17_work_194 rfl rfl ?_
            refine z_aload_n C 196 3 dX17_work_195 rfl rfl ?_
            refine z_callU (owner := RX10) (As := [.ref (fr), .ref (a6)]) (rest := []) C hκ hκl 199 (k10_gives_17 hX247 hs hw hT (b) (m) (x) (y) (fr) (xo σ 30 (xs)) (ar) (out) (dp) (k1) (b1) (t1) (a6) (tt) (adV tt (wdL (av x) (w 19 (3 * m + x)) tt) (wdL (av y) (w 19 (3 * m + y)) tt)) (cT σ (w 19 (3 * m + x)) (av x)) o240 ⟨by omega, by omega⟩ r_x r_y r_dp o241 o242 hOf o249 ne9 hnv9 ⟨by omega, by omega⟩ ⟨by omega, by omega⟩ ⟨by omega, by omega⟩) dX17_work_196 q1813 q1814 q1815 q1786 q104 q1787 rfl ⟨by decide, by decide, rfl⟩ (Nat.le_of_ble_eq_true rfl) (Nat.le_of_ble_eq_true rfl) (Nat.le_of_ble_eq_true rfl) (Nat.le_of_ble_eq_true rfl) (zrec_P o240) rfl rfl (Nat.le_of_ble_eq_true rfl) rfl (fun v9 Q9 h9 => ?_)
            obtain ⟨rfl, rfl⟩ := h9
            obtain ⟨M18, eM18⟩ : ∃ z9 : zMap, zup M17 out (.inr (6, [.int (iI (gvK (w 17 (m)) (suI (xpI w (m) (x)) (xpI w (m) (y))) (tt))), .long (lI (gvB (w 17 (m)) (suI (xpI w (m) (x)) (xpI w (m) (y))) (tt) (adV tt (wdL (av x) (w 19 (3 * m + x)) tt) (wdL (av y) (w 19 (3 * m + y)) tt)))), va_rf (gvT (w 17 (m)) (suI (xpI w (m) (x)) (xpI w (m) (y))) (cT σ (w 19 (3 * m + x)) (av x)))]) : va_E) = z9 := ⟨_, rfl⟩
            rw [eM18]
            have o250 : M18 b = some (.inr (17, [.ref (σ 20 (m)), .ref (σ 0 (0)), .int (iI (x)), .ref (σ 0 (0)), .int (iI (y)), .ref (σ 0 (0))])) := eM18 ▸ (zup_n ne2).trans o240
            have o251 : M18 fr = some (.inr (26, [va_rf (xo σ 30 (xs)), .ref (ar), .ref (out), .int (iI (dp))])) := eM18 ▸ (zup_n ne3).trans o241
            have o252 : M18 cx9 = some (.inr (6, [.int (iI (cK (w 19 (3 * m + x)))), .long (lI (cB (w 19 (3 * m + x)) (av x))), va_rf (cT σ (w 19 (3 * m + x)) (av x))])) := eM18 ▸ (zup_n (fun z9 => (fun z9 => hnx9 z9.symm) z9.symm)).trans o243
            have o253 : M18 cy9 = some (.inr (6, [.int (iI (cK (w 19 (3 * m + y)))), .long (lI (cB (w 19 (3 * m + y)) (av y))), va_rf (cT σ (w 19 (3 * m + y)) (av y))])) := eM18 ▸ (zup_n (fun z9 => (fun z9 => hny9 z9.symm) z9.symm)).trans o244
            have o254 : M18 a6 = some (.inr (6, [.int (iI (tt)), .long (lI (adV tt (wdL (av x) (w 19 (3 * m + x)) tt) (wdL (av y) (w 19 (3 * m + y)) tt))), va_rf (cT σ (w 19 (3 * m + x)) (av x))])) := eM18 ▸ (zup_n (fun z9 => ne9 z9.symm)).trans o249
            have o255 : M18 a33 = some (.inr (6, [.int (iI (tt)), .long (lI ((wdL (av y) (w 19 (3 * m + y)) tt))), va_rf (cT σ (w 19 (3 * m + y)) (av y))])) := eM18 ▸ (zup_n (fun z9 => ne36 z9.symm)).trans o245
            have o256 : M18 ar = some (.inl (θ.2.1 11, 3, xQ g9)) := eM18 ▸ (zup_n ne4).trans o246
            have hX257 : xM θ σ w (xL w) M18 := eM18 ▸ hX247.up hOf
            have fx258 : zFx out M M18 := eM18 ▸ fx248.up (Or.inr rfl)
            have o259 : M18 out = some (.inr (6, [.int (iI (gvK (w 17 (m)) (suI (xpI w (m) (x)) (xpI w (m) (y))) (tt))), .long (lI (gvB (w 17 (m)) (suI (xpI w (m) (x)) (xpI w (m) (y))) (tt) (adV tt (wdL (av x) (w 19 (3 * m + x)) tt) (wdL (av y) (w 19 (3 * m + y)) tt)))), va_rf (gvT (w 17 (m)) (suI (xpI w (m) (x)) (xpI w (m) (y))) (cT σ (w 19 (3 * m + x)) (av x)))])) := eM18 ▸ zup_s
            refine z_as (st' := []) rfl rfl rfl ?_
            exact z_vret C dX17_work_199 (Nat.le_of_ble_eq_true rfl) (Nat.le_of_ble_eq_true rfl) ⟨rfl, (by rw [ett]; exact hnb9), M18, rfl, hX257, (by rw [ett]; have h9 := o259; rw [ett] at h9; exact h9), xKp.of fx258⟩
          · skip
            refine z_aload_n C 166 3 dX17_work_165 rfl rfl ?_
            refine z_callV (As := []) (rest := [.ref (a6)]) C hκ hκl 169 (k6_single hT (a6) (tt) ((wdL (av x) (w 19 (3 * m + x)) tt)) (cT σ (w 19 (3 * m + x)) (av x)) o103 hmx9 ⟨by omega, by omega⟩) dX17_work_166 q1810 q1608 q1609 q96 q1610 znX6_single (Nat.le_of_ble_eq_true rfl) (Nat.le_of_ble_eq_true rfl) (Nat.le_of_ble_eq_true rfl) (Nat.le_of_ble_eq_true rfl) (zrec_P o103) rfl rfl (Nat.le_of_ble_eq_true rfl) rfl (fun v9 Q9 h9 => ?_)
            obtain ⟨rfl, rfl⟩ := h9
            refine z_as (st' := [.float (sgF (tt) ((wdL (av x) (w 19 (3 * m + x)) tt))), .ref (a6)]) rfl rfl rfl ?_
            refine z_aload C 171 4 dX17_work_169 rfl rfl ?_
            refine z_callV (As := []) (rest := [.float (sgF (tt) ((wdL (av x) (w 19 (3 * m + x)) tt))), .ref (a6)]) C hκ hκl 174 (k6_single hT (a33) (tt) ((wdL (av y) (w 19 (3 * m + y)) tt)) (cT σ (w 19 (3 * m + y)) (av y)) o104 hmy9 ⟨by omega, by omega⟩) dX17_work_171 q1810 q1608 q1609 q96 q1610 znX6_single (Nat.le_of_ble_eq_true rfl) (Nat.le_of_ble_eq_true rfl) (Nat.le_of_ble_eq_true rfl) (Nat.le_of_ble_eq_true rfl) (zrec_P o104) rfl rfl (Nat.le_of_ble_eq_true rfl) rfl (fun v9 Q9 h9 => ?_)
            obtain ⟨rfl, rfl⟩ := h9
            refine z_as (st' := [.float (sgF (tt) ((wdL (av y) (w 19 (3 * m + y)) tt))), .float (sgF (tt) ((wdL (av x) (w 19 (3 * m + x)) tt))), .ref (a6)]) rfl rfl rfl ?_
            have e69 : tt = 6 := by omega
            have hsx9 : sgF tt (wdL (av x) (w 19 (3 * m + x)) tt) = U32 (wdL (av x) (w 19 (3 * m + x)) tt) := by unfold sgF; rw [if_pos e69]
            have hsy9 : sgF tt (wdL (av y) (w 19 (3 * m + y)) tt) = U32 (wdL (av y) (w 19 (3 * m + y)) tt) := by unfold sgF; rw [if_pos e69]
            have hgx9 := sgF_vf hmx9
            have hgy9 := sgF_vf hmy9
            rw [hsx9] at hgx9
            rw [hsy9] at hgy9
            have hfa9 : FP.fadd (sgF tt (wdL (av x) (w 19 (3 * m + x)) tt)) (sgF tt (wdL (av y) (w 19 (3 * m + y)) tt)) = FP.d2f (FP.dadd (adU tt (wdL (av x) (w 19 (3 * m + x)) tt)) (adU tt (wdL (av y) (w 19 (3 * m + y)) tt))) := by rw [hsx9, hsy9]; have h9 := fadd_adV hgx9 hgy9 (by rw [← e69, e1U, e2U]; exact hN9); rw [← e69] at h9; exact h9
            refine z_faddE (v := FP.d2f (FP.dadd (adU tt (wdL (av x) (w 19 (3 * m + x)) tt)) (adU tt (wdL (av y) (w 19 (3 * m + y)) tt)))) C 175 dX17_work_174 hfa9 (d2f_vg hv9) rfl ?_
            refine z_callS (As := [.float (FP.d2f (FP.dadd (adU tt (wdL (av x) (w 19 (3 * m + x)) tt)) (adU tt (wdL (av y) (w 19 (3 * m + y)) tt))))]) (rest := [.ref (a6)]) C hκ hκl 178 (kF_bits hT (FP.d2f (FP.dadd (adU tt (wdL (av x) (w 19 (3 * m + x)) tt)) (adU tt (wdL (av y) (w 19 (3 * m + y)) tt)))) (d2f_vg hv9)) dX17_work_175 q1811 q1548 q133 q1549 znJ15_floatToIntBits (Nat.le_of_ble_eq_true rfl) (Nat.le_of_ble_eq_true rfl) (Nat.le_of_ble_eq_true rfl) (Nat.le_of_ble_eq_true rfl) rfl (Nat.le_of_ble_eq_true rfl) rfl (fun v9 Q9 h9 => ?_)
            obtain ⟨rfl, rfl⟩ := h9
            refine z_as (st' := [.int ((FP.d2f (FP.dadd (adU tt (wdL (av x) (w 19 (3 * m + x)) tt)) (adU tt (wdL (av y) (w 19 (3 * m + y)) tt)))).toInt32), .ref (a6)]) rfl rfl rfl ?_
            rw [show (.int ((FP.d2f (FP.dadd (adU tt (wdL (av x) (w 19 (3 * m + x)) tt)) (adU tt (wdL (av y) (w 19 (3 * m + y)) tt)))).toInt32) : Value) = .int (iI (sJ (FP.d2f (FP.dadd (adU tt (wdL (av x) (w 19 (3 * m + x)) tt)) (adU tt (wdL (av y) (w 19 (3 * m + y)) tt)))))) from congrArg Value.int (iI_sJ _)]
            refine z_i2l C 179 dX17_work_178 (sJ_R _) rfl ?_
            refine z_goto C 190 dX17_work_179 (by decide) ?_
            rw [show (.long (lI (sJ (FP.d2f (FP.dadd (adU tt (wdL (av x) (w 19 (3 * m + x)) tt)) (adU tt (wdL (av y) (w 19 (3 * m + y)) tt)))))) : Value) = .long (lI (adV tt (wdL (av x) (w 19 (3 * m + x)) tt) (wdL (av y) (w 19 (3 * m + y)) tt))) from congrArg (fun z9 => Value.long (lI z9)) (by unfold adV; rw [if_neg (by omega), if_neg (by omega), if_pos (by omega)])]
            refine z_putf (fs' := [.int (iI (tt)), .long (lI (adV tt (wdL (av x) (w 19 (3 * m + x)) tt) (wdL (av y) (w 19 (3 * m + y)) tt))), va_rf (cT σ (w 19 (3 * m + x)) (av x))]) C hκ 193 1 zk_X6 o103 (by decide) q251 (Or.inl rfl) rfl rfl rfl (Nat.le_of_ble_eq_true rfl) rfl dX17_work_190 rfl ?_
            obtain ⟨M19, eM19⟩ : ∃ z9 : zMap, zup M8 a6 (.inr (6, [.int (iI (tt)), .long (lI (adV tt (wdL (av x) (w 19 (3 * m + x)) tt) (wdL (av y) (w 19 (3 * m + y)) tt))), va_rf (cT σ (w 19 (3 * m + x)) (av x))]) : va_E) = z9 := ⟨_, rfl⟩
            rw [eM19]
            have o260 : M19 b = some (.inr (17, [.ref (σ 20 (m)), .ref (σ 0 (0)), .int (iI (x)), .ref (σ 0 (0)), .int (iI (y)), .ref (σ 0 (0))])) := eM19 ▸ (zup_n ne7).trans o93
            have o261 : M19 fr = some (.inr (26, [va_rf (xo σ 30 (xs)), .ref (ar), .ref (out), .int (iI (dp))])) := eM19 ▸ (zup_n ne8).trans o94
            have o262 : M19 out = some (.inr (6, [.int (iI (k1)), .long (lI (b1)), va_rf (t1)])) := eM19 ▸ (zup_n ne9).trans o95
            have o263 : M19 cx9 = some (.inr (6, [.int (iI (cK (w 19 (3 * m + x)))), .long (lI (cB (w 19 (3 * m + x)) (av x))), va_rf (cT σ (w 19 (3 * m + x)) (av x))])) := eM19 ▸ (zup_n ne10).trans o96
            have o264 : M19 cy9 = some (.inr (6, [.int (iI (cK (w 19 (3 * m + y)))), .long (lI (cB (w 19 (3 * m + y)) (av y))), va_rf (cT σ (w 19 (3 * m + y)) (av y))])) := eM19 ▸ (zup_n ne11).trans o97
            have o265 : M19 a33 = some (.inr (6, [.int (iI (tt)), .long (lI ((wdL (av y) (w 19 (3 * m + y)) tt))), va_rf (cT σ (w 19 (3 * m + y)) (av y))])) := eM19 ▸ (zup_n (fun z9 => ne39 z9.symm)).trans o104
            have o266 : M19 ar = some (.inl (θ.2.1 11, 3, xQ g9)) := eM19 ▸ (zup_n ne12).trans o99
            have hX267 : xM θ σ w (xL w) M19 := eM19 ▸ hX100.up fr13
            have fx268 : zFx out M M19 := eM19 ▸ fx101.up (Or.inl no14)
            have o269 : M19 a6 = some (.inr (6, [.int (iI (tt)), .long (lI (adV tt (wdL (av x) (w 19 (3 * m + x)) tt) (wdL (av y) (w 19 (3 * m + y)) tt))), va_rf (cT σ (w 19 (3 * m + x)) (av x))])) := eM19 ▸ zup_s
            have hnv9 : nmOk tt (adV tt (wdL (av x) (w 19 (3 * m + x)) tt) (wdL (av y) (w 19 (3 * m + y)) tt)) := adV_nm (fun _ => hv9)
            refine z_aload_n C 194 0 dX17_work_193 rfl rfl ?_
            refine z_aload_n C 195 1 dX17_work_194 rfl rfl ?_
            refine z_aload_n C 196 3 dX17_work_195 rfl rfl ?_
            refine z_callU (owner := RX10) (As := [.ref (fr), .ref (a6)]) (rest := []) C hκ hκl 199 (k10_gives_17 hX267 hs hw hT (b) (m) (x) (y) (fr) (xo σ 30 (xs)) (ar) (out) (dp) (k1) (b1) (t1) (a6) (tt) (adV tt (wdL (av x) (w 19 (3 * m + x)) tt) (wdL (av y) (w 19 (3 * m + y)) tt)) (cT σ (w 19 (3 * m + x)) (av x)) o260 ⟨by omega, by omega⟩ r_x r_y r_dp o261 o262 hOf o269 ne9 hnv9 ⟨by omega, by omega⟩ ⟨by omega, by omega⟩ ⟨by omega, by omega⟩) dX17_work_196 q1813 q1814 q1815 q1786 q104 q1787 rfl ⟨by decide, by decide, rfl⟩ (Nat.le_of_ble_eq_true rfl) (Nat.le_of_ble_eq_true rfl) (Nat.le_of_ble_eq_true rfl) (Nat.le_of_ble_eq_true rfl) (zrec_P o260) rfl rfl (Nat.le_of_ble_eq_true rfl) rfl (fun v9 Q9 h9 => ?_)
            obtain ⟨rfl, rfl⟩ := h9
            obtain ⟨M20, eM20⟩ : ∃ z9 : zMap, zup M19 out (.inr (6, [.int (iI (gvK (w 17 (m)) (suI (xpI w (m) (x)) (xpI w (m) (y))) (tt))), .long (lI (gvB (w 17 (m)) (suI (xpI w (m) (x)) (xpI w (m) (y))) (tt) (adV tt (wdL (av x) (w 19 (3 * m + x)) tt) (wdL (av y) (w 19 (3 * m + y)) tt)))), va_rf (gvT (w 17 (m)) (suI (xpI w (m) (x)) (xpI w (m) (y))) (cT σ (w 19 (3 * m + x)) (av x)))]) : va_E) = z9 := ⟨_, rfl⟩
            rw [eM20]
            have o270 : M20 b = some (.inr (17, [.ref (σ 20 (m)), .ref (σ 0 (0)), .int (iI (x)), .ref (σ 0 (0)), .int (iI (y)), .ref (σ 0 (0))])) := eM20 ▸ (zup_n ne2).trans o260
            have o271 : M20 fr = some (.inr (26, [va_rf (xo σ 30 (xs)), .ref (ar), .ref (out), .int (iI (dp))])) := eM20 ▸ (zup_n ne3).trans o261
            have o272 : M20 cx9 = some (.inr (6, [.int (iI (cK (w 19 (3 * m + x)))), .long (lI (cB (w 19 (3 * m + x)) (av x))), va_rf (cT σ (w 19 (3 * m + x)) (av x))])) := eM20 ▸ (zup_n (fun z9 => (fun z9 => hnx9 z9.symm) z9.symm)).trans o263
            have o273 : M20 cy9 = some (.inr (6, [.int (iI (cK (w 19 (3 * m + y)))), .long (lI (cB (w 19 (3 * m + y)) (av y))), va_rf (cT σ (w 19 (3 * m + y)) (av y))])) := eM20 ▸ (zup_n (fun z9 => (fun z9 => hny9 z9.symm) z9.symm)).trans o264
            have o274 : M20 a6 = some (.inr (6, [.int (iI (tt)), .long (lI (adV tt (wdL (av x) (w 19 (3 * m + x)) tt) (wdL (av y) (w 19 (3 * m + y)) tt))), va_rf (cT σ (w 19 (3 * m + x)) (av x))])) := eM20 ▸ (zup_n (fun z9 => ne9 z9.symm)).trans o269
            have o275 : M20 a33 = some (.inr (6, [.int (iI (tt)), .long (lI ((wdL (av y) (w 19 (3 * m + y)) tt))), va_rf (cT σ (w 19 (3 * m + y)) (av y))])) := eM20 ▸ (zup_n (fun z9 => ne36 z9.symm)).trans o265
            have o276 : M20 ar = some (.inl (θ.2.1 11, 3, xQ g9)) := eM20 ▸ (zup_n ne4).trans o266
            have hX277 : xM θ σ w (xL w) M20 := eM20 ▸ hX267.up hOf
            have fx278 : zFx out M M20 := eM20 ▸ fx268.up (Or.inr rfl)
            have o279 : M20 out = some (.inr (6, [.int (iI (gvK (w 17 (m)) (suI (xpI w (m) (x)) (xpI w (m) (y))) (tt))), .long (lI (gvB (w 17 (m)) (suI (xpI w (m) (x)) (xpI w (m) (y))) (tt) (adV tt (wdL (av x) (w 19 (3 * m + x)) tt) (wdL (av y) (w 19 (3 * m + y)) tt)))), va_rf (gvT (w 17 (m)) (suI (xpI w (m) (x)) (xpI w (m) (y))) (cT σ (w 19 (3 * m + x)) (av x)))])) := eM20 ▸ zup_s
            refine z_as (st' := []) rfl rfl rfl ?_
            exact z_vret C dX17_work_199 (Nat.le_of_ble_eq_true rfl) (Nat.le_of_ble_eq_true rfl) ⟨rfl, (by rw [ett]; exact hnb9), M20, rfl, hX277, (by rw [ett]; have h9 := o279; rw [ett] at h9; exact h9), xKp.of fx278⟩
  · skip
    refine z_aload_n C 70 3 dX17_work_69 rfl rfl ?_
    refine z_iload_n C 71 2 dX17_work_70 rfl rfl ?_
    refine z_iconst C 72 dX17_work_71 rfl ?_
    refine z_icmp_ne C 90 75 dX17_work_72 (by decide) ⟨by omega, by omega⟩ ⟨by decide, by decide⟩ rfl (fun c280 => ?_) (fun c280 => ?_)
    · skip
      refine z_aload_n C 91 3 dX17_work_90 rfl rfl ?_
      refine z_getf C hκ (v := .long (lI ((wdL (av x) (w 19 (3 * m + x)) tt)))) 94 1 zk_X6 o103 (by decide) q251 (Or.inl rfl) rfl dX17_work_91 rfl ?_
      refine z_aload C 96 4 dX17_work_94 rfl rfl ?_
      refine z_getf C hκ (v := .long (lI ((wdL (av y) (w 19 (3 * m + y)) tt)))) 99 1 zk_X6 o104 (by decide) q251 (Or.inl rfl) rfl dX17_work_96 rfl ?_
      refine z_ladd C 100 dX17_work_99 rfl ?_
      rw [show (.long (lI (((wdL (av x) (w 19 (3 * m + x)) tt)) + ((wdL (av y) (w 19 (3 * m + y)) tt)))) : Value) = .long (lI (adV tt (wdL (av x) (w 19 (3 * m + x)) tt) (wdL (av y) (w 19 (3 * m + y)) tt))) from (congrArg Value.long (lI_w64 _).symm).trans (congrArg (fun z9 => Value.long (lI z9)) (by unfold adV; rw [if_neg (by omega), if_pos (by omega)]))]
      have hnb9 : adB tt (wdL (av x) (w 19 (3 * m + x)) tt) (wdL (av y) (w 19 (3 * m + y)) tt) = false := by unfold adB; rw [decide_eq_false (by omega)]; rfl
      refine z_putf (fs' := [.int (iI (tt)), .long (lI (adV tt (wdL (av x) (w 19 (3 * m + x)) tt) (wdL (av y) (w 19 (3 * m + y)) tt))), va_rf (cT σ (w 19 (3 * m + x)) (av x))]) C hκ 103 1 zk_X6 o103 (by decide) q251 (Or.inl rfl) rfl rfl rfl (Nat.le_of_ble_eq_true rfl) rfl dX17_work_100 rfl ?_
      obtain ⟨M21, eM21⟩ : ∃ z9 : zMap, zup M8 a6 (.inr (6, [.int (iI (tt)), .long (lI (adV tt (wdL (av x) (w 19 (3 * m + x)) tt) (wdL (av y) (w 19 (3 * m + y)) tt))), va_rf (cT σ (w 19 (3 * m + x)) (av x))]) : va_E) = z9 := ⟨_, rfl⟩
      rw [eM21]
      have o281 : M21 b = some (.inr (17, [.ref (σ 20 (m)), .ref (σ 0 (0)), .int (iI (x)), .ref (σ 0 (0)), .int (iI (y)), .ref (σ 0 (0))])) := eM21 ▸ (zup_n ne7).trans o93
      have o282 : M21 fr = some (.inr (26, [va_rf (xo σ 30 (xs)), .ref (ar), .ref (out), .int (iI (dp))])) := eM21 ▸ (zup_n ne8).trans o94
      have o283 : M21 out = some (.inr (6, [.int (iI (k1)), .long (lI (b1)), va_rf (t1)])) := eM21 ▸ (zup_n ne9).trans o95
      have o284 : M21 cx9 = some (.inr (6, [.int (iI (cK (w 19 (3 * m + x)))), .long (lI (cB (w 19 (3 * m + x)) (av x))), va_rf (cT σ (w 19 (3 * m + x)) (av x))])) := eM21 ▸ (zup_n ne10).trans o96
      have o285 : M21 cy9 = some (.inr (6, [.int (iI (cK (w 19 (3 * m + y)))), .long (lI (cB (w 19 (3 * m + y)) (av y))), va_rf (cT σ (w 19 (3 * m + y)) (av y))])) := eM21 ▸ (zup_n ne11).trans o97
      have o286 : M21 a33 = some (.inr (6, [.int (iI (tt)), .long (lI ((wdL (av y) (w 19 (3 * m + y)) tt))), va_rf (cT σ (w 19 (3 * m + y)) (av y))])) := eM21 ▸ (zup_n (fun z9 => ne39 z9.symm)).trans o104
      have o287 : M21 ar = some (.inl (θ.2.1 11, 3, xQ g9)) := eM21 ▸ (zup_n ne12).trans o99
      have hX288 : xM θ σ w (xL w) M21 := eM21 ▸ hX100.up fr13
      have fx289 : zFx out M M21 := eM21 ▸ fx101.up (Or.inl no14)
      have o290 : M21 a6 = some (.inr (6, [.int (iI (tt)), .long (lI (adV tt (wdL (av x) (w 19 (3 * m + x)) tt) (wdL (av y) (w 19 (3 * m + y)) tt))), va_rf (cT σ (w 19 (3 * m + x)) (av x))])) := eM21 ▸ zup_s
      refine z_goto C 193 dX17_work_103 (by decide) ?_
      have hnv9 : nmOk tt (adV tt (wdL (av x) (w 19 (3 * m + x)) tt) (wdL (av y) (w 19 (3 * m + y)) tt)) := adV_nm (fun h9 => absurd h9 (by omega))
      refine z_aload_n C 194 0 dX17_work_193 rfl rfl ?_
      refine z_aload_n C 195 1 dX17_work_194 rfl rfl ?_
      refine z_aload_n C 196 3 dX17_work_195 rfl rfl ?_
      refine z_callU (owner := RX10) (As := [.ref (fr), .ref (a6)]) (rest := []) C hκ hκl 199 (k10_gives_17 hX288 hs hw hT (b) (m) (x) (y) (fr) (xo σ 30 (xs)) (ar) (out) (dp) (k1) (b1) (t1) (a6) (tt) (adV tt (wdL (av x) (w 19 (3 * m + x)) tt) (wdL (av y) (w 19 (3 * m + y)) tt)) (cT σ (w 19 (3 * m + x)) (av x)) o281 ⟨by omega, by omega⟩ r_x r_y r_dp o282 o283 hOf o290 ne9 hnv9 ⟨by omega, by omega⟩ ⟨by omega, by omega⟩ ⟨by omega, by omega⟩) dX17_work_196 q1813 q1814 q1815 q1786 q104 q1787 rfl ⟨by decide, by decide, rfl⟩ (Nat.le_of_ble_eq_true rfl) (Nat.le_of_ble_eq_true rfl) (Nat.le_of_ble_eq_true rfl) (Nat.le_of_ble_eq_true rfl) (zrec_P o281) rfl rfl (Nat.le_of_ble_eq_true rfl) rfl (fun v9 Q9 h9 => ?_)
      obtain ⟨rfl, rfl⟩ := h9
      obtain ⟨M22, eM22⟩ : ∃ z9 : zMap, zup M21 out (.inr (6, [.int (iI (gvK (w 17 (m)) (suI (xpI w (m) (x)) (xpI w (m) (y))) (tt))), .long (lI (gvB (w 17 (m)) (suI (xpI w (m) (x)) (xpI w (m) (y))) (tt) (adV tt (wdL (av x) (w 19 (3 * m + x)) tt) (wdL (av y) (w 19 (3 * m + y)) tt)))), va_rf (gvT (w 17 (m)) (suI (xpI w (m) (x)) (xpI w (m) (y))) (cT σ (w 19 (3 * m + x)) (av x)))]) : va_E) = z9 := ⟨_, rfl⟩
      rw [eM22]
      have o291 : M22 b = some (.inr (17, [.ref (σ 20 (m)), .ref (σ 0 (0)), .int (iI (x)), .ref (σ 0 (0)), .int (iI (y)), .ref (σ 0 (0))])) := eM22 ▸ (zup_n ne2).trans o281
      have o292 : M22 fr = some (.inr (26, [va_rf (xo σ 30 (xs)), .ref (ar), .ref (out), .int (iI (dp))])) := eM22 ▸ (zup_n ne3).trans o282
      have o293 : M22 cx9 = some (.inr (6, [.int (iI (cK (w 19 (3 * m + x)))), .long (lI (cB (w 19 (3 * m + x)) (av x))), va_rf (cT σ (w 19 (3 * m + x)) (av x))])) := eM22 ▸ (zup_n (fun z9 => (fun z9 => hnx9 z9.symm) z9.symm)).trans o284
      have o294 : M22 cy9 = some (.inr (6, [.int (iI (cK (w 19 (3 * m + y)))), .long (lI (cB (w 19 (3 * m + y)) (av y))), va_rf (cT σ (w 19 (3 * m + y)) (av y))])) := eM22 ▸ (zup_n (fun z9 => (fun z9 => hny9 z9.symm) z9.symm)).trans o285
      have o295 : M22 a6 = some (.inr (6, [.int (iI (tt)), .long (lI (adV tt (wdL (av x) (w 19 (3 * m + x)) tt) (wdL (av y) (w 19 (3 * m + y)) tt))), va_rf (cT σ (w 19 (3 * m + x)) (av x))])) := eM22 ▸ (zup_n (fun z9 => ne9 z9.symm)).trans o290
      have o296 : M22 a33 = some (.inr (6, [.int (iI (tt)), .long (lI ((wdL (av y) (w 19 (3 * m + y)) tt))), va_rf (cT σ (w 19 (3 * m + y)) (av y))])) := eM22 ▸ (zup_n (fun z9 => ne36 z9.symm)).trans o286
      have o297 : M22 ar = some (.inl (θ.2.1 11, 3, xQ g9)) := eM22 ▸ (zup_n ne4).trans o287
      have hX298 : xM θ σ w (xL w) M22 := eM22 ▸ hX288.up hOf
      have fx299 : zFx out M M22 := eM22 ▸ fx289.up (Or.inr rfl)
      have o300 : M22 out = some (.inr (6, [.int (iI (gvK (w 17 (m)) (suI (xpI w (m) (x)) (xpI w (m) (y))) (tt))), .long (lI (gvB (w 17 (m)) (suI (xpI w (m) (x)) (xpI w (m) (y))) (tt) (adV tt (wdL (av x) (w 19 (3 * m + x)) tt) (wdL (av y) (w 19 (3 * m + y)) tt)))), va_rf (gvT (w 17 (m)) (suI (xpI w (m) (x)) (xpI w (m) (y))) (cT σ (w 19 (3 * m + x)) (av x)))])) := eM22 ▸ zup_s
      refine z_as (st' := []) rfl rfl rfl ?_
      exact z_vret C dX17_work_199 (Nat.le_of_ble_eq_true rfl) (Nat.le_of_ble_eq_true rfl) ⟨rfl, (by rw [ett]; exact hnb9), M22, rfl, hX298, (by rw [ett]; have h9 := o300; rw [ett] at h9; exact h9), xKp.of fx299⟩
    · skip
      refine z_aload_n C 76 3 dX17_work_75 rfl rfl ?_
      refine z_getf C hκ (v := .long (lI ((wdL (av x) (w 19 (3 * m + x)) tt)))) 79 1 zk_X6 o103 (by decide) q251 (Or.inl rfl) rfl dX17_work_76 rfl ?_
      refine z_aload C 81 4 dX17_work_79 rfl rfl ?_
      refine z_getf C hκ (v := .long (lI ((wdL (av y) (w 19 (3 * m + y)) tt)))) 84 1 zk_X6 o104 (by decide) q251 (Or.inl rfl) rfl dX17_work_81 rfl ?_
      refine z_ladd C 85 dX17_work_84 rfl ?_
      refine z_l2i C 86 dX17_work_85 rfl ?_
      rw [show (.int (iI (((wdL (av x) (w 19 (3 * m + x)) tt)) + ((wdL (av y) (w 19 (3 * m + y)) tt)))) : Value) = .int (iI (w32 (((wdL (av x) (w 19 (3 * m + x)) tt)) + ((wdL (av y) (w 19 (3 * m + y)) tt))))) from congrArg Value.int (iI_w32 _).symm]
      refine z_i2l C 87 dX17_work_86 (w32_R _) rfl ?_
      refine z_goto C 100 dX17_work_87 (by decide) ?_
      rw [show (.long (lI (w32 (((wdL (av x) (w 19 (3 * m + x)) tt)) + ((wdL (av y) (w 19 (3 * m + y)) tt))))) : Value) = .long (lI (adV tt (wdL (av x) (w 19 (3 * m + x)) tt) (wdL (av y) (w 19 (3 * m + y)) tt))) from congrArg (fun z9 => Value.long (lI z9)) (by unfold adV; rw [if_pos (by omega)])]
      have hnb9 : adB tt (wdL (av x) (w 19 (3 * m + x)) tt) (wdL (av y) (w 19 (3 * m + y)) tt) = false := by unfold adB; rw [decide_eq_false (by omega)]; rfl
      refine z_putf (fs' := [.int (iI (tt)), .long (lI (adV tt (wdL (av x) (w 19 (3 * m + x)) tt) (wdL (av y) (w 19 (3 * m + y)) tt))), va_rf (cT σ (w 19 (3 * m + x)) (av x))]) C hκ 103 1 zk_X6 o103 (by decide) q251 (Or.inl rfl) rfl rfl rfl (Nat.le_of_ble_eq_true rfl) rfl dX17_work_100 rfl ?_
      obtain ⟨M23, eM23⟩ : ∃ z9 : zMap, zup M8 a6 (.inr (6, [.int (iI (tt)), .long (lI (adV tt (wdL (av x) (w 19 (3 * m + x)) tt) (wdL (av y) (w 19 (3 * m + y)) tt))), va_rf (cT σ (w 19 (3 * m + x)) (av x))]) : va_E) = z9 := ⟨_, rfl⟩
      rw [eM23]
      have o301 : M23 b = some (.inr (17, [.ref (σ 20 (m)), .ref (σ 0 (0)), .int (iI (x)), .ref (σ 0 (0)), .int (iI (y)), .ref (σ 0 (0))])) := eM23 ▸ (zup_n ne7).trans o93
      have o302 : M23 fr = some (.inr (26, [va_rf (xo σ 30 (xs)), .ref (ar), .ref (out), .int (iI (dp))])) := eM23 ▸ (zup_n ne8).trans o94
      have o303 : M23 out = some (.inr (6, [.int (iI (k1)), .long (lI (b1)), va_rf (t1)])) := eM23 ▸ (zup_n ne9).trans o95
      have o304 : M23 cx9 = some (.inr (6, [.int (iI (cK (w 19 (3 * m + x)))), .long (lI (cB (w 19 (3 * m + x)) (av x))), va_rf (cT σ (w 19 (3 * m + x)) (av x))])) := eM23 ▸ (zup_n ne10).trans o96
      have o305 : M23 cy9 = some (.inr (6, [.int (iI (cK (w 19 (3 * m + y)))), .long (lI (cB (w 19 (3 * m + y)) (av y))), va_rf (cT σ (w 19 (3 * m + y)) (av y))])) := eM23 ▸ (zup_n ne11).trans o97
      have o306 : M23 a33 = some (.inr (6, [.int (iI (tt)), .long (lI ((wdL (av y) (w 19 (3 * m + y)) tt))), va_rf (cT σ (w 19 (3 * m + y)) (av y))])) := eM23 ▸ (zup_n (fun z9 => ne39 z9.symm)).trans o104
      have o307 : M23 ar = some (.inl (θ.2.1 11, 3, xQ g9)) := eM23 ▸ (zup_n ne12).trans o99
      have hX308 : xM θ σ w (xL w) M23 := eM23 ▸ hX100.up fr13
      have fx309 : zFx out M M23 := eM23 ▸ fx101.up (Or.inl no14)
      have o310 : M23 a6 = some (.inr (6, [.int (iI (tt)), .long (lI (adV tt (wdL (av x) (w 19 (3 * m + x)) tt) (wdL (av y) (w 19 (3 * m + y)) tt))), va_rf (cT σ (w 19 (3 * m + x)) (av x))])) := eM23 ▸ zup_s
      refine z_goto C 193 dX17_work_103 (by decide) ?_
      have hnv9 : nmOk tt (adV tt (wdL (av x) (w 19 (3 * m + x)) tt) (wdL (av y) (w 19 (3 * m + y)) tt)) := adV_nm (fun h9 => absurd h9 (by omega))
      refine z_aload_n C 194 0 dX17_work_193 rfl rfl ?_
      refine z_aload_n C 195 1 dX17_work_194 rfl rfl ?_
      refine z_aload_n C 196 3 dX17_work_195 rfl rfl ?_
      refine z_callU (owner := RX10) (As := [.ref (fr), .ref (a6)]) (rest := []) C hκ hκl 199 (k10_gives_17 hX308 hs hw hT (b) (m) (x) (y) (fr) (xo σ 30 (xs)) (ar) (out) (dp) (k1) (b1) (t1) (a6) (tt) (adV tt (wdL (av x) (w 19 (3 * m + x)) tt) (wdL (av y) (w 19 (3 * m + y)) tt)) (cT σ (w 19 (3 * m + x)) (av x)) o301 ⟨by omega, by omega⟩ r_x r_y r_dp o302 o303 hOf o310 ne9 hnv9 ⟨by omega, by omega⟩ ⟨by omega, by omega⟩ ⟨by omega, by omega⟩) dX17_work_196 q1813 q1814 q1815 q1786 q104 q1787 rfl ⟨by decide, by decide, rfl⟩ (Nat.le_of_ble_eq_true rfl) (Nat.le_of_ble_eq_true rfl) (Nat.le_of_ble_eq_true rfl) (Nat.le_of_ble_eq_true rfl) (zrec_P o301) rfl rfl (Nat.le_of_ble_eq_true rfl) rfl (fun v9 Q9 h9 => ?_)
      obtain ⟨rfl, rfl⟩ := h9
      obtain ⟨M24, eM24⟩ : ∃ z9 : zMap, zup M23 out (.inr (6, [.int (iI (gvK (w 17 (m)) (suI (xpI w (m) (x)) (xpI w (m) (y))) (tt))), .long (lI (gvB (w 17 (m)) (suI (xpI w (m) (x)) (xpI w (m) (y))) (tt) (adV tt (wdL (av x) (w 19 (3 * m + x)) tt) (wdL (av y) (w 19 (3 * m + y)) tt)))), va_rf (gvT (w 17 (m)) (suI (xpI w (m) (x)) (xpI w (m) (y))) (cT σ (w 19 (3 * m + x)) (av x)))]) : va_E) = z9 := ⟨_, rfl⟩
      rw [eM24]
      have o311 : M24 b = some (.inr (17, [.ref (σ 20 (m)), .ref (σ 0 (0)), .int (iI (x)), .ref (σ 0 (0)), .int (iI (y)), .ref (σ 0 (0))])) := eM24 ▸ (zup_n ne2).trans o301
      have o312 : M24 fr = some (.inr (26, [va_rf (xo σ 30 (xs)), .ref (ar), .ref (out), .int (iI (dp))])) := eM24 ▸ (zup_n ne3).trans o302
      have o313 : M24 cx9 = some (.inr (6, [.int (iI (cK (w 19 (3 * m + x)))), .long (lI (cB (w 19 (3 * m + x)) (av x))), va_rf (cT σ (w 19 (3 * m + x)) (av x))])) := eM24 ▸ (zup_n (fun z9 => (fun z9 => hnx9 z9.symm) z9.symm)).trans o304
      have o314 : M24 cy9 = some (.inr (6, [.int (iI (cK (w 19 (3 * m + y)))), .long (lI (cB (w 19 (3 * m + y)) (av y))), va_rf (cT σ (w 19 (3 * m + y)) (av y))])) := eM24 ▸ (zup_n (fun z9 => (fun z9 => hny9 z9.symm) z9.symm)).trans o305
      have o315 : M24 a6 = some (.inr (6, [.int (iI (tt)), .long (lI (adV tt (wdL (av x) (w 19 (3 * m + x)) tt) (wdL (av y) (w 19 (3 * m + y)) tt))), va_rf (cT σ (w 19 (3 * m + x)) (av x))])) := eM24 ▸ (zup_n (fun z9 => ne9 z9.symm)).trans o310
      have o316 : M24 a33 = some (.inr (6, [.int (iI (tt)), .long (lI ((wdL (av y) (w 19 (3 * m + y)) tt))), va_rf (cT σ (w 19 (3 * m + y)) (av y))])) := eM24 ▸ (zup_n (fun z9 => ne36 z9.symm)).trans o306
      have o317 : M24 ar = some (.inl (θ.2.1 11, 3, xQ g9)) := eM24 ▸ (zup_n ne4).trans o307
      have hX318 : xM θ σ w (xL w) M24 := eM24 ▸ hX308.up hOf
      have fx319 : zFx out M M24 := eM24 ▸ fx309.up (Or.inr rfl)
      have o320 : M24 out = some (.inr (6, [.int (iI (gvK (w 17 (m)) (suI (xpI w (m) (x)) (xpI w (m) (y))) (tt))), .long (lI (gvB (w 17 (m)) (suI (xpI w (m) (x)) (xpI w (m) (y))) (tt) (adV tt (wdL (av x) (w 19 (3 * m + x)) tt) (wdL (av y) (w 19 (3 * m + y)) tt)))), va_rf (gvT (w 17 (m)) (suI (xpI w (m) (x)) (xpI w (m) (y))) (cT σ (w 19 (3 * m + x)) (av x)))])) := eM24 ▸ zup_s
      refine z_as (st' := []) rfl rfl rfl ?_
      exact z_vret C dX17_work_199 (Nat.le_of_ble_eq_true rfl) (Nat.le_of_ble_eq_true rfl) ⟨rfl, (by rw [ett]; exact hnb9), M24, rfl, hX318, (by rw [ett]; have h9 := o320; rw [ett] at h9; exact h9), xKp.of fx319⟩
