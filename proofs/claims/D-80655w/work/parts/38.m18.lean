/-! ===== the Model: two numbers added ===== -/
theorem dadd_vf {s t : Bool} {n m : Nat} (hn : fR n) (hm : fR m) (h : ¬ (n = fTop ∧ m = fTop ∧ s ≠ t)) : vf_n64 (FP.dadd (fZ s n) (fZ t m)) := by
  have inf : ∀ s : Bool, vf_n64 (UInt64.ofNat (FP.Core.encode FP.Core.b64 (.inf s))) := fun s => by cases s <;> (unfold vf_n64; decide +kernel)
  show vf_n64 (UInt64.ofNat (FP.Core.encode FP.Core.b64 (FP.Core.round FP.Core.b64 (FP.Core.exactSum (v64 (fZ s n)) (v64 (fZ t m))))))
  rcases hn with hn | hn <;> rcases hm with hm | hm
  · have e1 : v64 (fZ s n) = .inf s := by unfold fZ; rw [if_pos hn, v64_inf]
    have e2 : v64 (fZ t m) = .inf t := by unfold fZ; rw [if_pos hm, v64_inf]
    have hst : s = t := Decidable.byContradiction fun hh => h ⟨hn, hm, hh⟩
    rw [e1, e2, hst]
    show vf_n64 (UInt64.ofNat (FP.Core.encode FP.Core.b64 (FP.Core.round FP.Core.b64 (if t = t then .inf t else .nan))))
    rw [if_pos rfl]; exact inf t
  · have e1 : v64 (fZ s n) = .inf s := by unfold fZ; rw [if_pos hn, v64_inf]
    obtain ⟨c, q, h1, h2, h3⟩ := fN_v (fX_N (s := t) hm)
    rw [e1, fZ_X hm, h2]; exact inf s
  · have e2 : v64 (fZ t m) = .inf t := by unfold fZ; rw [if_pos hm, v64_inf]
    obtain ⟨c, q, h1, h2, h3⟩ := fN_v (fX_N (s := s) hn)
    rw [e2, fZ_X hn, h2]; exact inf t
  · obtain ⟨c, q, h1, h2, h3⟩ := fN_v (fX_N (s := s) hn)
    obtain ⟨d, r, h4, h5, h6⟩ := fN_v (fX_N (s := t) hm)
    rw [fZ_X hn, fZ_X hm, h2, h5]
    exact rnd_vf
theorem d2f_vg {x : UInt64} (h : vf_n64 x) : vf_n32 (FP.d2f x) := by
  unfold FP.d2f
  rw [show FP.Core.dIsNaN x = false from fnan h]
  obtain ⟨s, n, hr, rfl⟩ := fZ_of h
  show vf_n32 (UInt32.ofNat (FP.Core.encode FP.Core.b32 (FP.Core.round FP.Core.b32 (v64 (fZ s n)))))
  rcases hr with hr | hr
  · have e1 : v64 (fZ s n) = .inf s := by unfold fZ; rw [if_pos hr, v64_inf]
    rw [e1]; cases s <;> (unfold vf_n32; decide +kernel)
  · obtain ⟨c, q, h1, h2, h3⟩ := fN_v (fX_N (s := s) hr)
    rw [fZ_X hr, h2]; exact rnd_vg
theorem U64_vf {b : Int} (h : zlandd b 9223372036854775807 ≤ 9218868437227405312) : vf_n64 (U64 b) := by
  have hk : zlandd b 9223372036854775807 = b % 9223372036854775808 := zlandd_mask 63 (by decide) (by decide)
  have := U64_nat b
  rw [vf_nat]; omega
theorem sJ_ok {x : UInt32} (h : vf_n32 x) : zlandd (sJ x) 2147483647 ≤ 2139095040 := by
  have hk : zlandd (sJ x) 2147483647 = sJ x % 2147483648 := zlandd_mask 31 (by decide) (by decide)
  rw [vg_nat] at h
  have := x.toNat_lt
  rw [hk, sJ_nat]; split <;> omega
theorem sI_ok {x : UInt64} (h : vf_n64 x) : zlandd (sI x) 9223372036854775807 ≤ 9218868437227405312 := by
  have hk : zlandd (sI x) 9223372036854775807 = sI x % 9223372036854775808 := zlandd_mask 63 (by decide) (by decide)
  rw [vf_nat] at h
  have := x.toNat_lt
  rw [hk, sI_nat]; split <;> omega
/-- bits that fit a type of numbers -/
def nuB (p a : Int) : Prop := (p = 6 → inR a ∧ zlandd a 2147483647 ≤ 2139095040) ∧ (p = 7 → zlandd a 9223372036854775807 ≤ 9218868437227405312)
theorem wd6 {a p : Int} (hp : p ≤ 6) (h : nuB p a) : inR (wdL a p 6) ∧ zlandd (wdL a p 6) 2147483647 ≤ 2139095040 := by
  unfold wdL
  by_cases h6 : p = 6
  · rw [if_pos (Or.inl h6)]; exact h.1 h6
  · rw [if_neg (by omega), if_neg h6, if_pos rfl]; exact ⟨sJ_R _, sJ_ok (l2f_vf _)⟩
theorem wd7 {a p : Int} (hp : p ≤ 7) (h : nuB p a) : zlandd (wdL a p 7) 9223372036854775807 ≤ 9218868437227405312 := by
  unfold wdL
  by_cases h7 : p = 7
  · rw [if_pos (Or.inl h7)]; exact h.2 h7
  · rw [if_neg (by omega)]
    by_cases h6 : p = 6
    · rw [if_pos h6]; exact sI_ok (f2d_vf (U32_vg (h.1 h6).2))
    · rw [if_neg h6, if_neg (by decide)]; exact sI_ok (l2d_vf _)
theorem infp {s : Bool} {n : Nat} (hr : fR n) : sg false fMx < sg s n ↔ fZ s n = infB false := by
  have h1 := fMx_top
  constructor
  · intro h
    cases s
    · have := sglt.mp h
      rcases hr with hr | hr
      · unfold fZ; rw [if_pos hr]
      · have := fRep_le hr; omega
    · exfalso; unfold sg at h; simp at h; omega
  · intro h
    rcases hr with hr | hr
    · cases s
      · rw [hr]; exact sglt.mpr h1
      · unfold fZ at h; rw [if_pos hr] at h; exact absurd h (by decide +kernel)
    · obtain ⟨c, q, g1, g2, g3⟩ := fN_v (fX_N (s := s) hr)
      rw [← fZ_X hr, h, v64_inf] at g2; cases g2
theorem infn {s : Bool} {n : Nat} (hr : fR n) : sg s n < sg true fMx ↔ fZ s n = infB true := by
  have h1 := fMx_top
  constructor
  · intro h
    cases s
    · exfalso; unfold sg at h; simp at h; omega
    · rcases hr with hr | hr
      · unfold fZ; rw [if_pos hr]
      · have := fRep_le hr; unfold sg at h; simp at h; omega
  · intro h
    rcases hr with hr | hr
    · cases s
      · unfold fZ at h; rw [if_pos hr] at h; exact absurd h (by decide +kernel)
      · rw [hr]; unfold sg; simp; omega
    · obtain ⟨c, q, g1, g2, g3⟩ := fN_v (fX_N (s := s) hr)
      rw [← fZ_X hr, h, v64_inf] at g2; cases g2
def adN (u v : UInt64) : Bool := (decide (u = infB false) && decide (v = infB true)) || (decide (u = infB true) && decide (v = infB false))
def adU (t x : Int) : UInt64 := if t = 6 then FP.f2d (U32 x) else U64 x
def adV (t x y : Int) : Int := if t = 4 then w32 (x + y) else if t = 5 then w64 (x + y) else if t = 6 then sJ (FP.d2f (FP.dadd (adU t x) (adU t y))) else sI (FP.dadd (adU t x) (adU t y))
def adB (t x y : Int) : Bool := decide (6 ≤ t) && adN (adU t x) (adU t y)
def adW (w : mW) (m a b p q : Int) : mW := if adB (suI p q) (wdL a p (suI p q)) (wdL b q (suI p q)) then flW w 2 m (w 45 0 - 1) else cmW w (suI p q) (adV (suI p q) (wdL a p (suI p q)) (wdL b q (suI p q)))
theorem fMx_rep : fRep fMx := fRep_p 2045 _ (by decide) (by decide)
theorem adN_ne {s t : Bool} {n m : Nat} (hn : fR n) (hm : fR m) (h : adN (fZ s n) (fZ t m) = false) : ¬ (n = fTop ∧ m = fTop ∧ s ≠ t) := by
  rintro ⟨h1, h2, h3⟩
  unfold adN fZ at h
  rw [if_pos h1, if_pos h2] at h
  cases s <;> cases t <;> simp at h h3
theorem w32_R (z : Int) : inR (w32 z) := inR_of _
theorem w64_L (z : Int) : inL (w64 z) := inL_of _
theorem iI_w32 (z : Int) : iI (w32 z) = iI z := (iI_of _).symm
theorem lI_w64 (z : Int) : lI (w64 z) = lI z := (lI_of _).symm
theorem adU_vf {t p a : Int} (hp : p ≤ t) (ht : t = 6 ∨ t = 7) (h : nuB p a) : vf_n64 (adU t (wdL a p t)) := by
  unfold adU
  rcases ht with rfl | rfl
  · rw [if_pos rfl]; exact f2d_vf (U32_vg (wd6 hp h).2)
  · rw [if_neg (by decide)]; exact U64_vf (wd7 hp h)
theorem adB_iff {t x y : Int} {s1 s2 : Bool} {n1 n2 : Nat} (h6 : 6 ≤ t) (h1 : fR n1) (h2 : fR n2) (e1 : adU t x = fZ s1 n1) (e2 : adU t y = fZ s2 n2) : adB t x y = true ↔ ((sg false fMx < sg s1 n1 ∧ sg s2 n2 < sg true fMx) ∨ (sg s1 n1 < sg true fMx ∧ sg false fMx < sg s2 n2)) := by
  unfold adB adN
  rw [e1, e2, infp h1, infn h2, infn h1, infp h2]
  simp [h6]
theorem fc_mn {s : Bool} {n : Nat} (h : fR n) : FP.dcmp (fZ s n) (fZ true fMx) = some (compare (sg s n) (sg true fMx)) := fcmp h (Or.inr fMx_rep)
theorem fng_mx : FP.dneg 9218868437227405311 = fZ true fMx := by
  have e : (9218868437227405311 : UInt64) = fX false fMx := by decide +kernel
  rw [e, fX_neg fMx_rep, fZ_X fMx_rep]; rfl
theorem suI_r {p q : Int} (hp : 1 ≤ p ∧ p ≤ 7) (hq : 1 ≤ q ∧ q ≤ 7) : 4 ≤ suI p q ∧ suI p q ≤ 7 ∧ p ≤ suI p q ∧ q ≤ suI p q := by unfold suI; (repeat' split) <;> omega
theorem adV_L (t x y : Int) : inL (adV t x y) := by
  unfold adV
  split
  · exact inR_L (w32_R _)
  · split
    · exact w64_L _
    · split
      · exact inR_L (sJ_R _)
      · exact sI_L _
theorem adW_wf {w : mW} {m a b p q : Int} (hw : mWF w) (hm : inR m) (ho : 0 ≤ w 45 0 ∧ w 45 0 ≤ 12) (hp : 1 ≤ p ∧ p ≤ 7) (hq : 1 ≤ q ∧ q ≤ 7) : mWF (adW w m a b p q) := by
  have := suI_r hp hq
  unfold adW
  split
  · exact flW_wf hw ⟨by decide, by decide⟩ hm ⟨by omega, by omega⟩
  · exact cmW_wf hw ⟨by omega, by omega⟩ (adV_L _ _ _)

set_option maxRecDepth 100000 in
theorem k7_adds {l : Launch} {θ : zTh} {N : zMap} {am : Nat} {ar : Nat → Nat} {w : mW} (hD : mDis am ar) (hw : mWF w) (m : Int) (a : Int) (b : Int) (p : Int) (q : Int) (r_m : inR m) (r_a : inL a) (r_b : inL b) (r_p : inR p) (r_q : inR q) (hp : 1 ≤ p ∧ p ≤ 7) (hq : 1 ≤ q ∧ q ≤ 7) (ha : nuB p a) (hb : nuB q b) (ho : 0 ≤ w 45 0 ∧ w 45 0 ≤ 12) : ZF θ l yX7_adds cX7_adds 19 none ⟨3, 0, 0, 75⟩ [.ref (am), .int (iI (m)), .long (lI (a)), .long (lI (b)), .int (iI (p)), .int (iI (q))] (mP θ am ar w N) none (mP θ am ar (adW w m a b p q) N) := by
  refine z_start (own := RX7) (nm := "adds") pnX7 rfl rfl (Nat.le_of_ble_eq_true rfl) ?_
  intro κ hκ hκl C
  change Z κ (mP θ am ar w N) 0 0 0 [(0, .ref (am)), (1, .int (iI (m))), (2, .long (lI (a))), (4, .long (lI (b))), (6, .int (iI (p))), (7, .int (iI (q)))] []
  refine z_iload C 2 4 dX7_adds_0 rfl rfl ?_
  refine z_iload C 4 5 dX7_adds_2 rfl rfl ?_
  refine z_callSF (n' := 0) (k' := 0) (As := [.int (iI (p)), .int (iI (q))]) (rest := []) C hκ hκl 7 (k7_sumType (p) (q) r_p r_q) dX7_adds_4 q2513 q2514 q97 q2515 znX7_sumType (Nat.le_of_ble_eq_true rfl) (Nat.le_of_ble_eq_true rfl) (Nat.le_of_ble_eq_true rfl) (Nat.le_of_ble_eq_true rfl) rfl (Nat.le_of_ble_eq_true rfl) rfl rfl rfl ?_
  have hsu := suI_r hp hq
  obtain ⟨tt, ett⟩ : ∃ z, suI (p) (q) = z := ⟨_, rfl⟩
  rw [ett]
  rw [ett] at hsu
  refine z_istore (lv' := [(0, .ref (am)), (1, .int (iI (m))), (2, .long (lI (a))), (4, .long (lI (b))), (6, .int (iI (p))), (7, .int (iI (q))), (8, .int (iI (tt)))]) C 9 [1, 2, 3, 4, 5, 6, 0] dX7_adds_7 (by decide) rfl rfl ?_
  refine z_lload_n C 10 2 dX7_adds_9 rfl rfl ?_
  refine z_iload C 12 4 dX7_adds_10 rfl rfl ?_
  refine z_iload C 14 6 dX7_adds_12 rfl rfl ?_
  refine z_callSF (n' := 0) (k' := 0) (As := [.long (lI (a)), .int (iI (p)), .int (iI (tt))]) (rest := []) C hκ hκl 17 (k7_widened (a) (p) (tt) r_a r_p ⟨by omega, by omega⟩ (fun h _ => ha.1 h)) dX7_adds_14 q2428 q2429 q97 q2430 znX7_widened (Nat.le_of_ble_eq_true rfl) (Nat.le_of_ble_eq_true rfl) (Nat.le_of_ble_eq_true rfl) (Nat.le_of_ble_eq_true rfl) rfl (Nat.le_of_ble_eq_true rfl) rfl rfl rfl ?_
  have rX : inL (wdL (a) (p) (tt)) := (wdL_L r_a)
  obtain ⟨X, eX⟩ : ∃ z, wdL (a) (p) (tt) = z := ⟨_, rfl⟩
  rw [eX]
  rw [eX] at rX
  refine z_lstore (lv' := [(0, .ref (am)), (1, .int (iI (m))), (2, .long (lI (a))), (4, .long (lI (b))), (6, .int (iI (p))), (7, .int (iI (q))), (8, .int (iI (tt))), (9, .long (lI (X)))]) C 19 [1, 2, 3, 4, 5, 6, 7, 0] dX7_adds_17 (by decide) rfl rfl ?_
  refine z_lload C 21 3 dX7_adds_19 rfl rfl ?_
  refine z_iload C 23 5 dX7_adds_21 rfl rfl ?_
  refine z_iload C 25 6 dX7_adds_23 rfl rfl ?_
  refine z_callSF (n' := 0) (k' := 0) (As := [.long (lI (b)), .int (iI (q)), .int (iI (tt))]) (rest := []) C hκ hκl 28 (k7_widened (b) (q) (tt) r_b r_q ⟨by omega, by omega⟩ (fun h _ => hb.1 h)) dX7_adds_25 q2428 q2429 q97 q2430 znX7_widened (Nat.le_of_ble_eq_true rfl) (Nat.le_of_ble_eq_true rfl) (Nat.le_of_ble_eq_true rfl) (Nat.le_of_ble_eq_true rfl) rfl (Nat.le_of_ble_eq_true rfl) rfl rfl rfl ?_
  have rY : inL (wdL (b) (q) (tt)) := (wdL_L r_b)
  obtain ⟨Y, eY⟩ : ∃ z, wdL (b) (q) (tt) = z := ⟨_, rfl⟩
  rw [eY]
  rw [eY] at rY
  refine z_lstore (lv' := [(0, .ref (am)), (1, .int (iI (m))), (2, .long (lI (a))), (4, .long (lI (b))), (6, .int (iI (p))), (7, .int (iI (q))), (8, .int (iI (tt))), (9, .long (lI (X))), (11, .long (lI (Y)))]) C 30 [1, 2, 3, 4, 5, 6, 7, 8, 0] dX7_adds_28 (by decide) rfl rfl ?_
  refine z_iload C 32 6 dX7_adds_30 rfl rfl ?_
  refine z_iconst C 33 dX7_adds_32 rfl ?_
  refine z_icmp_ne C 52 36 dX7_adds_33 (by decide) ⟨by omega, by omega⟩ ⟨by decide, by decide⟩ rfl (fun c1 => ?_) (fun c1 => ?_)
  · skip
    refine z_iload C 54 6 dX7_adds_52 rfl rfl ?_
    refine z_iconst C 55 dX7_adds_54 rfl ?_
    refine z_icmp_ne C 72 58 dX7_adds_55 (by decide) ⟨by omega, by omega⟩ ⟨by decide, by decide⟩ rfl (fun c2 => ?_) (fun c2 => ?_)
    · skip
      have L118_3 : ∀ (fu : Nat)  (h6 : 6 ≤ tt) (hme : 0 < fu), Z κ (mP θ am ar w N) 0 0 118 [(0, .ref (am)), (1, .int (iI (m))), (8, .int (iI (tt))), (9, .long (lI (X))), (11, .long (lI (Y))), (13, .double (adU tt X)), (15, .double (adU tt Y))] [] := by
        intro fu
        induction fu with
        | zero => intro h6 hme; exact absurd hme (Nat.not_lt_zero _)
        | succ fu ih4 =>
          intro h6 hme
          have t67 : tt = 6 ∨ tt = 7 := by omega
          have v1 := eX ▸ adU_vf (by omega) t67 ha
          have v2 := eY ▸ adU_vf (by omega) t67 hb
          obtain ⟨s1, n1, hr1, e1⟩ := fZ_of v1
          obtain ⟨s2, n2, hr2, e2⟩ := fZ_of v2
          have hB := adB_iff h6 hr1 hr2 e1 e2
          have q1 := fc_mx (s := s1) hr1; have q2 := fc_mn (s := s2) hr2; have q3 := fc_mn (s := s1) hr1; have q4 := fc_mx (s := s2) hr2; rw [← e1] at q1 q3; rw [← e2] at q2 q4
          generalize sg false fMx = mx at hB q1 q4
          generalize sg true fMx = mn at hB q2 q3
          generalize sg s1 n1 = u1 at hB q1 q3
          generalize sg s2 n2 = u2 at hB q2 q4
          refine z_ldc2d C 121 dX7_adds_118 q2450 rfl ?_
          refine z_dstore (lv' := [(0, .ref (am)), (1, .int (iI (m))), (8, .int (iI (tt))), (9, .long (lI (X))), (11, .long (lI (Y))), (13, .double (adU tt X)), (15, .double (adU tt Y)), (17, .double (9218868437227405311))]) C 123 [1, 2, 3, 4, 5, 6, 7, 0] dX7_adds_121 (by decide) rfl rfl ?_
          refine z_dload C 125 5 dX7_adds_123 rfl rfl ?_
          refine z_dload C 127 7 dX7_adds_125 rfl rfl ?_
          refine z_dcmp (a := u1) (b := mx) C 128 dX7_adds_127 q1 rfl ?_
          refine z_ifC_le C 140 131 dX7_adds_128 (by decide) rfl (fun c5 => ?_) (fun c5 => ?_)
          · skip
            refine z_dload C 142 5 dX7_adds_140 rfl rfl ?_
            refine z_dload C 144 7 dX7_adds_142 rfl rfl ?_
            refine z_dnegE (v := fZ true fMx) C 145 dX7_adds_144 fng_mx rfl ?_
            refine z_dcmp (a := u1) (b := mn) C 146 dX7_adds_145 q3 rfl ?_
            refine z_ifC_ge C 172 149 dX7_adds_146 (by decide) rfl (fun c6 => ?_) (fun c6 => ?_)
            · skip
              refine z_aload_n C 173 0 dX7_adds_172 rfl rfl ?_
              have hb : adB tt X Y = false := Bool.eq_false_iff.mpr (fun h => by have h9 := hB.mp h; omega)
              have hN : adN (fZ s1 n1) (fZ s2 n2) = false := by rw [← e1, ← e2]; unfold adB at hb; rw [show decide (6 ≤ tt) = true from by simp; omega] at hb; simpa using hb
              have hv : vf_n64 (FP.dadd (adU tt X) (adU tt Y)) := by rw [e1, e2]; exact dadd_vf hr1 hr2 (adN_ne hr1 hr2 hN)
              obtain ⟨s3, n3, hr3, e3⟩ := fZ_of hv
              obtain ⟨s4, n4, hr4, e4⟩ := gZ_of (d2f_vg hv)
              refine z_iload C 175 2 dX7_adds_173 rfl rfl ?_
              refine z_iload C 177 2 dX7_adds_175 rfl rfl ?_
              refine z_bipush C 179 dX7_adds_177 (by decide) rfl ?_
              refine z_icmp_ne C 194 182 dX7_adds_179 (by decide) ⟨by omega, by omega⟩ ⟨by decide, by decide⟩ rfl (fun c7 => ?_) (fun c7 => ?_)
              · skip
                refine z_dload C 196 5 dX7_adds_194 rfl rfl ?_
                refine z_dload C 198 6 dX7_adds_196 rfl rfl ?_
                refine z_daddE (v := fZ s3 n3) C 199 dX7_adds_198 e3 (e3 ▸ hv) rfl ?_
                refine z_callSF (n' := 0) (k' := 0) (As := [.double (fZ s3 n3)]) (rest := [.int (iI (tt)), .ref (am)]) C hκ hκl 202 (k7_doubleBits s3 n3 hr3) dX7_adds_199 q2444 q2445 q97 q2446 znX7_doubleBits (Nat.le_of_ble_eq_true rfl) (Nat.le_of_ble_eq_true rfl) (Nat.le_of_ble_eq_true rfl) (Nat.le_of_ble_eq_true rfl) rfl (Nat.le_of_ble_eq_true rfl) rfl rfl rfl ?_
                refine z_callVF0 (n' := 0) (k' := 0) (As := [.int (iI (tt)), .long (lI (sI (fZ s3 n3)))]) (rest := []) C hκ hκl 205 (k7_comesTo hD hw (tt) (sI (fZ s3 n3)) ⟨by omega, by omega⟩ (sI_L _)) dX7_adds_202 q2540 q2542 qs85 q97 q2543 znX7_comesTo (Nat.le_of_ble_eq_true rfl) (Nat.le_of_ble_eq_true rfl) (Nat.le_of_ble_eq_true rfl) (Nat.le_of_ble_eq_true rfl) mrec rfl rfl (Nat.le_of_ble_eq_true rfl) rfl rfl rfl ?_
                obtain ⟨w1, ew1⟩ : ∃ wz, (mset (mset w 49 0 (tt)) 50 0 (sI (fZ s3 n3))) = wz := ⟨_, rfl⟩
                rw [ew1]
                have hw1 : mWF w1 := ew1 ▸ ((hw.set ⟨by omega, by omega⟩ rfl).setL (sI_L _) rfl rfl)
                exact z_vret C dX7_adds_205 (Nat.le_of_ble_eq_true rfl) (Nat.le_of_ble_eq_true rfl) ⟨rfl, (congrArg (fun w' => mP θ am ar w' N) (by rw [adW, ett, eX, eY, if_neg (by simp [hb]), ← ew1]; unfold adV cmW; rw [if_neg (by omega), if_neg (by omega), if_neg (by omega), e3]))⟩
              · skip
                refine z_dload C 184 5 dX7_adds_182 rfl rfl ?_
                refine z_dload C 186 6 dX7_adds_184 rfl rfl ?_
                refine z_daddE (v := FP.dadd (adU tt X) (adU tt Y)) C 187 dX7_adds_186 rfl hv rfl ?_
                refine z_d2fE (v := gZ s4 n4) C 188 dX7_adds_187 e4 (e4 ▸ d2f_vg hv) rfl ?_
                refine z_callSF (n' := 0) (k' := 0) (As := [.float (gZ s4 n4)]) (rest := [.int (iI (tt)), .ref (am)]) C hκ hκl 191 (k7_floatBits s4 n4 hr4) dX7_adds_188 q2454 q2455 q97 q2456 znX7_floatBits (Nat.le_of_ble_eq_true rfl) (Nat.le_of_ble_eq_true rfl) (Nat.le_of_ble_eq_true rfl) (Nat.le_of_ble_eq_true rfl) rfl (Nat.le_of_ble_eq_true rfl) rfl rfl rfl ?_
                refine z_goto C 202 dX7_adds_191 (by decide) ?_
                refine z_callVF0 (n' := 0) (k' := 0) (As := [.int (iI (tt)), .long (lI (sJ (gZ s4 n4)))]) (rest := []) C hκ hκl 205 (k7_comesTo hD hw (tt) (sJ (gZ s4 n4)) ⟨by omega, by omega⟩ (inR_L (sJ_R _))) dX7_adds_202 q2540 q2542 qs85 q97 q2543 znX7_comesTo (Nat.le_of_ble_eq_true rfl) (Nat.le_of_ble_eq_true rfl) (Nat.le_of_ble_eq_true rfl) (Nat.le_of_ble_eq_true rfl) mrec rfl rfl (Nat.le_of_ble_eq_true rfl) rfl rfl rfl ?_
                obtain ⟨w2, ew2⟩ : ∃ wz, (mset (mset w 49 0 (tt)) 50 0 (sJ (gZ s4 n4))) = wz := ⟨_, rfl⟩
                rw [ew2]
                have hw2 : mWF w2 := ew2 ▸ ((hw.set ⟨by omega, by omega⟩ rfl).setL (inR_L (sJ_R _)) rfl rfl)
                exact z_vret C dX7_adds_205 (Nat.le_of_ble_eq_true rfl) (Nat.le_of_ble_eq_true rfl) ⟨rfl, (congrArg (fun w' => mP θ am ar w' N) (by rw [adW, ett, eX, eY, if_neg (by simp [hb]), ← ew2]; unfold adV cmW; rw [if_neg (by omega), if_neg (by omega), if_pos (by omega), e4]))⟩
            · skip
              refine z_dload C 151 6 dX7_adds_149 rfl rfl ?_
              refine z_dload C 153 7 dX7_adds_151 rfl rfl ?_
              refine z_dcmp (a := u2) (b := mx) C 154 dX7_adds_153 q4 rfl ?_
              refine z_ifC_le C 172 157 dX7_adds_154 (by decide) rfl (fun c8 => ?_) (fun c8 => ?_)
              · skip
                refine z_aload_n C 173 0 dX7_adds_172 rfl rfl ?_
                have hb : adB tt X Y = false := Bool.eq_false_iff.mpr (fun h => by have h9 := hB.mp h; omega)
                have hN : adN (fZ s1 n1) (fZ s2 n2) = false := by rw [← e1, ← e2]; unfold adB at hb; rw [show decide (6 ≤ tt) = true from by simp; omega] at hb; simpa using hb
                have hv : vf_n64 (FP.dadd (adU tt X) (adU tt Y)) := by rw [e1, e2]; exact dadd_vf hr1 hr2 (adN_ne hr1 hr2 hN)
                obtain ⟨s3, n3, hr3, e3⟩ := fZ_of hv
                obtain ⟨s4, n4, hr4, e4⟩ := gZ_of (d2f_vg hv)
                refine z_iload C 175 2 dX7_adds_173 rfl rfl ?_
                refine z_iload C 177 2 dX7_adds_175 rfl rfl ?_
                refine z_bipush C 179 dX7_adds_177 (by decide) rfl ?_
                refine z_icmp_ne C 194 182 dX7_adds_179 (by decide) ⟨by omega, by omega⟩ ⟨by decide, by decide⟩ rfl (fun c9 => ?_) (fun c9 => ?_)
                · skip
                  refine z_dload C 196 5 dX7_adds_194 rfl rfl ?_
                  refine z_dload C 198 6 dX7_adds_196 rfl rfl ?_
                  refine z_daddE (v := fZ s3 n3) C 199 dX7_adds_198 e3 (e3 ▸ hv) rfl ?_
                  refine z_callSF (n' := 0) (k' := 0) (As := [.double (fZ s3 n3)]) (rest := [.int (iI (tt)), .ref (am)]) C hκ hκl 202 (k7_doubleBits s3 n3 hr3) dX7_adds_199 q2444 q2445 q97 q2446 znX7_doubleBits (Nat.le_of_ble_eq_true rfl) (Nat.le_of_ble_eq_true rfl) (Nat.le_of_ble_eq_true rfl) (Nat.le_of_ble_eq_true rfl) rfl (Nat.le_of_ble_eq_true rfl) rfl rfl rfl ?_
                  refine z_callVF0 (n' := 0) (k' := 0) (As := [.int (iI (tt)), .long (lI (sI (fZ s3 n3)))]) (rest := []) C hκ hκl 205 (k7_comesTo hD hw (tt) (sI (fZ s3 n3)) ⟨by omega, by omega⟩ (sI_L _)) dX7_adds_202 q2540 q2542 qs85 q97 q2543 znX7_comesTo (Nat.le_of_ble_eq_true rfl) (Nat.le_of_ble_eq_true rfl) (Nat.le_of_ble_eq_true rfl) (Nat.le_of_ble_eq_true rfl) mrec rfl rfl (Nat.le_of_ble_eq_true rfl) rfl rfl rfl ?_
                  obtain ⟨w3, ew3⟩ : ∃ wz, (mset (mset w 49 0 (tt)) 50 0 (sI (fZ s3 n3))) = wz := ⟨_, rfl⟩
                  rw [ew3]
                  have hw3 : mWF w3 := ew3 ▸ ((hw.set ⟨by omega, by omega⟩ rfl).setL (sI_L _) rfl rfl)
                  exact z_vret C dX7_adds_205 (Nat.le_of_ble_eq_true rfl) (Nat.le_of_ble_eq_true rfl) ⟨rfl, (congrArg (fun w' => mP θ am ar w' N) (by rw [adW, ett, eX, eY, if_neg (by simp [hb]), ← ew3]; unfold adV cmW; rw [if_neg (by omega), if_neg (by omega), if_neg (by omega), e3]))⟩
                · skip
                  refine z_dload C 184 5 dX7_adds_182 rfl rfl ?_
                  refine z_dload C 186 6 dX7_adds_184 rfl rfl ?_
                  refine z_daddE (v := FP.dadd (adU tt X) (adU tt Y)) C 187 dX7_adds_186 rfl hv rfl ?_
                  refine z_d2fE (v := gZ s4 n4) C 188 dX7_adds_187 e4 (e4 ▸ d2f_vg hv) rfl ?_
                  refine z_callSF (n' := 0) (k' := 0) (As := [.float (gZ s4 n4)]) (rest := [.int (iI (tt)), .ref (am)]) C hκ hκl 191 (k7_floatBits s4 n4 hr4) dX7_adds_188 q2454 q2455 q97 q2456 znX7_floatBits (Nat.le_of_ble_eq_true rfl) (Nat.le_of_ble_eq_true rfl) (Nat.le_of_ble_eq_true rfl) (Nat.le_of_ble_eq_true rfl) rfl (Nat.le_of_ble_eq_true rfl) rfl rfl rfl ?_
                  refine z_goto C 202 dX7_adds_191 (by decide) ?_
                  refine z_callVF0 (n' := 0) (k' := 0) (As := [.int (iI (tt)), .long (lI (sJ (gZ s4 n4)))]) (rest := []) C hκ hκl 205 (k7_comesTo hD hw (tt) (sJ (gZ s4 n4)) ⟨by omega, by omega⟩ (inR_L (sJ_R _))) dX7_adds_202 q2540 q2542 qs85 q97 q2543 znX7_comesTo (Nat.le_of_ble_eq_true rfl) (Nat.le_of_ble_eq_true rfl) (Nat.le_of_ble_eq_true rfl) (Nat.le_of_ble_eq_true rfl) mrec rfl rfl (Nat.le_of_ble_eq_true rfl) rfl rfl rfl ?_
                  obtain ⟨w4, ew4⟩ : ∃ wz, (mset (mset w 49 0 (tt)) 50 0 (sJ (gZ s4 n4))) = wz := ⟨_, rfl⟩
                  rw [ew4]
                  have hw4 : mWF w4 := ew4 ▸ ((hw.set ⟨by omega, by omega⟩ rfl).setL (inR_L (sJ_R _)) rfl rfl)
                  exact z_vret C dX7_adds_205 (Nat.le_of_ble_eq_true rfl) (Nat.le_of_ble_eq_true rfl) ⟨rfl, (congrArg (fun w' => mP θ am ar w' N) (by rw [adW, ett, eX, eY, if_neg (by simp [hb]), ← ew4]; unfold adV cmW; rw [if_neg (by omega), if_neg (by omega), if_pos (by omega), e4]))⟩
              · skip
                refine z_aload_n C 158 0 dX7_adds_157 rfl rfl ?_
                refine z_iconst C 159 dX7_adds_158 rfl ?_
                refine z_iload_n C 160 1 dX7_adds_159 rfl rfl ?_
                refine z_aload_n C 161 0 dX7_adds_160 rfl rfl ?_
                refine m_geti C hκ 164 45 (by decide) rfl q2040 rfl dX7_adds_161 rfl ?_
                refine z_iconst C 165 dX7_adds_164 rfl ?_
                refine z_isub C 166 dX7_adds_165 rfl ?_
                refine z_callVF0 (n' := 0) (k' := 0) (As := [.int (iI (2)), .int (iI (m)), .int (iI ((w 45 0) - (1)))]) (rest := []) C hκ hκl 169 (k7_fails hD hw (2) (m) ((w 45 0) - (1)) ⟨by decide, by decide⟩ r_m ⟨by omega, by omega⟩) dX7_adds_166 q2532 q2534 qs83 q97 q2535 znX7_fails (Nat.le_of_ble_eq_true rfl) (Nat.le_of_ble_eq_true rfl) (Nat.le_of_ble_eq_true rfl) (Nat.le_of_ble_eq_true rfl) mrec rfl rfl (Nat.le_of_ble_eq_true rfl) rfl rfl rfl ?_
                obtain ⟨w5, ew5⟩ : ∃ wz, (mset (mset (mset (mset w 51 0 (2)) 37 0 (2)) 38 0 (m)) 39 0 ((w 45 0) - (1))) = wz := ⟨_, rfl⟩
                rw [ew5]
                have hw5 : mWF w5 := ew5 ▸ ((((hw.set ⟨by decide, by decide⟩ rfl).set ⟨by decide, by decide⟩ rfl).set r_m rfl).set ⟨by omega, by omega⟩ rfl)
                refine z_goto C 205 dX7_adds_169 (by decide) ?_
                exact z_vret C dX7_adds_205 (Nat.le_of_ble_eq_true rfl) (Nat.le_of_ble_eq_true rfl) ⟨rfl, (congrArg (fun w' => mP θ am ar w' N) (by rw [adW, ett, eX, eY, if_pos (hB.mpr (by omega)), ← ew5]; rfl))⟩
          · skip
            refine z_dload C 133 6 dX7_adds_131 rfl rfl ?_
            refine z_dload C 135 7 dX7_adds_133 rfl rfl ?_
            refine z_dnegE (v := fZ true fMx) C 136 dX7_adds_135 fng_mx rfl ?_
            refine z_dcmp (a := u2) (b := mn) C 137 dX7_adds_136 q2 rfl ?_
            refine z_ifC_lt C 157 140 dX7_adds_137 (by decide) rfl (fun c10 => ?_) (fun c10 => ?_)
            · skip
              refine z_aload_n C 158 0 dX7_adds_157 rfl rfl ?_
              refine z_iconst C 159 dX7_adds_158 rfl ?_
              refine z_iload_n C 160 1 dX7_adds_159 rfl rfl ?_
              refine z_aload_n C 161 0 dX7_adds_160 rfl rfl ?_
              refine m_geti C hκ 164 45 (by decide) rfl q2040 rfl dX7_adds_161 rfl ?_
              refine z_iconst C 165 dX7_adds_164 rfl ?_
              refine z_isub C 166 dX7_adds_165 rfl ?_
              refine z_callVF0 (n' := 0) (k' := 0) (As := [.int (iI (2)), .int (iI (m)), .int (iI ((w 45 0) - (1)))]) (rest := []) C hκ hκl 169 (k7_fails hD hw (2) (m) ((w 45 0) - (1)) ⟨by decide, by decide⟩ r_m ⟨by omega, by omega⟩) dX7_adds_166 q2532 q2534 qs83 q97 q2535 znX7_fails (Nat.le_of_ble_eq_true rfl) (Nat.le_of_ble_eq_true rfl) (Nat.le_of_ble_eq_true rfl) (Nat.le_of_ble_eq_true rfl) mrec rfl rfl (Nat.le_of_ble_eq_true rfl) rfl rfl rfl ?_
              obtain ⟨w6, ew6⟩ : ∃ wz, (mset (mset (mset (mset w 51 0 (2)) 37 0 (2)) 38 0 (m)) 39 0 ((w 45 0) - (1))) = wz := ⟨_, rfl⟩
              rw [ew6]
              have hw6 : mWF w6 := ew6 ▸ ((((hw.set ⟨by decide, by decide⟩ rfl).set ⟨by decide, by decide⟩ rfl).set r_m rfl).set ⟨by omega, by omega⟩ rfl)
              refine z_goto C 205 dX7_adds_169 (by decide) ?_
              exact z_vret C dX7_adds_205 (Nat.le_of_ble_eq_true rfl) (Nat.le_of_ble_eq_true rfl) ⟨rfl, (congrArg (fun w' => mP θ am ar w' N) (by rw [adW, ett, eX, eY, if_pos (hB.mpr (by omega)), ← ew6]; rfl))⟩
            · skip
              refine z_dload C 142 5 dX7_adds_140 rfl rfl ?_
              refine z_dload C 144 7 dX7_adds_142 rfl rfl ?_
              refine z_dnegE (v := fZ true fMx) C 145 dX7_adds_144 fng_mx rfl ?_
              refine z_dcmp (a := u1) (b := mn) C 146 dX7_adds_145 q3 rfl ?_
              refine z_ifC_ge C 172 149 dX7_adds_146 (by decide) rfl (fun c11 => ?_) (fun c11 => ?_)
              · skip
                refine z_aload_n C 173 0 dX7_adds_172 rfl rfl ?_
                have hb : adB tt X Y = false := Bool.eq_false_iff.mpr (fun h => by have h9 := hB.mp h; omega)
                have hN : adN (fZ s1 n1) (fZ s2 n2) = false := by rw [← e1, ← e2]; unfold adB at hb; rw [show decide (6 ≤ tt) = true from by simp; omega] at hb; simpa using hb
                have hv : vf_n64 (FP.dadd (adU tt X) (adU tt Y)) := by rw [e1, e2]; exact dadd_vf hr1 hr2 (adN_ne hr1 hr2 hN)
                obtain ⟨s3, n3, hr3, e3⟩ := fZ_of hv
                obtain ⟨s4, n4, hr4, e4⟩ := gZ_of (d2f_vg hv)
                refine z_iload C 175 2 dX7_adds_173 rfl rfl ?_
                refine z_iload C 177 2 dX7_adds_175 rfl rfl ?_
                refine z_bipush C 179 dX7_adds_177 (by decide) rfl ?_
                refine z_icmp_ne C 194 182 dX7_adds_179 (by decide) ⟨by omega, by omega⟩ ⟨by decide, by decide⟩ rfl (fun c12 => ?_) (fun c12 => ?_)
                · skip
                  refine z_dload C 196 5 dX7_adds_194 rfl rfl ?_
                  refine z_dload C 198 6 dX7_adds_196 rfl rfl ?_
                  refine z_daddE (v := fZ s3 n3) C 199 dX7_adds_198 e3 (e3 ▸ hv) rfl ?_
                  refine z_callSF (n' := 0) (k' := 0) (As := [.double (fZ s3 n3)]) (rest := [.int (iI (tt)), .ref (am)]) C hκ hκl 202 (k7_doubleBits s3 n3 hr3) dX7_adds_199 q2444 q2445 q97 q2446 znX7_doubleBits (Nat.le_of_ble_eq_true rfl) (Nat.le_of_ble_eq_true rfl) (Nat.le_of_ble_eq_true rfl) (Nat.le_of_ble_eq_true rfl) rfl (Nat.le_of_ble_eq_true rfl) rfl rfl rfl ?_
                  refine z_callVF0 (n' := 0) (k' := 0) (As := [.int (iI (tt)), .long (lI (sI (fZ s3 n3)))]) (rest := []) C hκ hκl 205 (k7_comesTo hD hw (tt) (sI (fZ s3 n3)) ⟨by omega, by omega⟩ (sI_L _)) dX7_adds_202 q2540 q2542 qs85 q97 q2543 znX7_comesTo (Nat.le_of_ble_eq_true rfl) (Nat.le_of_ble_eq_true rfl) (Nat.le_of_ble_eq_true rfl) (Nat.le_of_ble_eq_true rfl) mrec rfl rfl (Nat.le_of_ble_eq_true rfl) rfl rfl rfl ?_
                  obtain ⟨w7, ew7⟩ : ∃ wz, (mset (mset w 49 0 (tt)) 50 0 (sI (fZ s3 n3))) = wz := ⟨_, rfl⟩
                  rw [ew7]
                  have hw7 : mWF w7 := ew7 ▸ ((hw.set ⟨by omega, by omega⟩ rfl).setL (sI_L _) rfl rfl)
                  exact z_vret C dX7_adds_205 (Nat.le_of_ble_eq_true rfl) (Nat.le_of_ble_eq_true rfl) ⟨rfl, (congrArg (fun w' => mP θ am ar w' N) (by rw [adW, ett, eX, eY, if_neg (by simp [hb]), ← ew7]; unfold adV cmW; rw [if_neg (by omega), if_neg (by omega), if_neg (by omega), e3]))⟩
                · skip
                  refine z_dload C 184 5 dX7_adds_182 rfl rfl ?_
                  refine z_dload C 186 6 dX7_adds_184 rfl rfl ?_
                  refine z_daddE (v := FP.dadd (adU tt X) (adU tt Y)) C 187 dX7_adds_186 rfl hv rfl ?_
                  refine z_d2fE (v := gZ s4 n4) C 188 dX7_adds_187 e4 (e4 ▸ d2f_vg hv) rfl ?_
                  refine z_callSF (n' := 0) (k' := 0) (As := [.float (gZ s4 n4)]) (rest := [.int (iI (tt)), .ref (am)]) C hκ hκl 191 (k7_floatBits s4 n4 hr4) dX7_adds_188 q2454 q2455 q97 q2456 znX7_floatBits (Nat.le_of_ble_eq_true rfl) (Nat.le_of_ble_eq_true rfl) (Nat.le_of_ble_eq_true rfl) (Nat.le_of_ble_eq_true rfl) rfl (Nat.le_of_ble_eq_true rfl) rfl rfl rfl ?_
                  refine z_goto C 202 dX7_adds_191 (by decide) ?_
                  refine z_callVF0 (n' := 0) (k' := 0) (As := [.int (iI (tt)), .long (lI (sJ (gZ s4 n4)))]) (rest := []) C hκ hκl 205 (k7_comesTo hD hw (tt) (sJ (gZ s4 n4)) ⟨by omega, by omega⟩ (inR_L (sJ_R _))) dX7_adds_202 q2540 q2542 qs85 q97 q2543 znX7_comesTo (Nat.le_of_ble_eq_true rfl) (Nat.le_of_ble_eq_true rfl) (Nat.le_of_ble_eq_true rfl) (Nat.le_of_ble_eq_true rfl) mrec rfl rfl (Nat.le_of_ble_eq_true rfl) rfl rfl rfl ?_
                  obtain ⟨w8, ew8⟩ : ∃ wz, (mset (mset w 49 0 (tt)) 50 0 (sJ (gZ s4 n4))) = wz := ⟨_, rfl⟩
                  rw [ew8]
                  have hw8 : mWF w8 := ew8 ▸ ((hw.set ⟨by omega, by omega⟩ rfl).setL (inR_L (sJ_R _)) rfl rfl)
                  exact z_vret C dX7_adds_205 (Nat.le_of_ble_eq_true rfl) (Nat.le_of_ble_eq_true rfl) ⟨rfl, (congrArg (fun w' => mP θ am ar w' N) (by rw [adW, ett, eX, eY, if_neg (by simp [hb]), ← ew8]; unfold adV cmW; rw [if_neg (by omega), if_neg (by omega), if_pos (by omega), e4]))⟩
              · skip
                refine z_dload C 151 6 dX7_adds_149 rfl rfl ?_
                refine z_dload C 153 7 dX7_adds_151 rfl rfl ?_
                refine z_dcmp (a := u2) (b := mx) C 154 dX7_adds_153 q4 rfl ?_
                refine z_ifC_le C 172 157 dX7_adds_154 (by decide) rfl (fun c13 => ?_) (fun c13 => ?_)
                · skip
                  refine z_aload_n C 173 0 dX7_adds_172 rfl rfl ?_
                  have hb : adB tt X Y = false := Bool.eq_false_iff.mpr (fun h => by have h9 := hB.mp h; omega)
                  have hN : adN (fZ s1 n1) (fZ s2 n2) = false := by rw [← e1, ← e2]; unfold adB at hb; rw [show decide (6 ≤ tt) = true from by simp; omega] at hb; simpa using hb
                  have hv : vf_n64 (FP.dadd (adU tt X) (adU tt Y)) := by rw [e1, e2]; exact dadd_vf hr1 hr2 (adN_ne hr1 hr2 hN)
                  obtain ⟨s3, n3, hr3, e3⟩ := fZ_of hv
                  obtain ⟨s4, n4, hr4, e4⟩ := gZ_of (d2f_vg hv)
                  refine z_iload C 175 2 dX7_adds_173 rfl rfl ?_
                  refine z_iload C 177 2 dX7_adds_175 rfl rfl ?_
                  refine z_bipush C 179 dX7_adds_177 (by decide) rfl ?_
                  refine z_icmp_ne C 194 182 dX7_adds_179 (by decide) ⟨by omega, by omega⟩ ⟨by decide, by decide⟩ rfl (fun c14 => ?_) (fun c14 => ?_)
                  · skip
                    refine z_dload C 196 5 dX7_adds_194 rfl rfl ?_
                    refine z_dload C 198 6 dX7_adds_196 rfl rfl ?_
                    refine z_daddE (v := fZ s3 n3) C 199 dX7_adds_198 e3 (e3 ▸ hv) rfl ?_
                    refine z_callSF (n' := 0) (k' := 0) (As := [.double (fZ s3 n3)]) (rest := [.int (iI (tt)), .ref (am)]) C hκ hκl 202 (k7_doubleBits s3 n3 hr3) dX7_adds_199 q2444 q2445 q97 q2446 znX7_doubleBits (Nat.le_of_ble_eq_true rfl) (Nat.le_of_ble_eq_true rfl) (Nat.le_of_ble_eq_true rfl) (Nat.le_of_ble_eq_true rfl) rfl (Nat.le_of_ble_eq_true rfl) rfl rfl rfl ?_
                    refine z_callVF0 (n' := 0) (k' := 0) (As := [.int (iI (tt)), .long (lI (sI (fZ s3 n3)))]) (rest := []) C hκ hκl 205 (k7_comesTo hD hw (tt) (sI (fZ s3 n3)) ⟨by omega, by omega⟩ (sI_L _)) dX7_adds_202 q2540 q2542 qs85 q97 q2543 znX7_comesTo (Nat.le_of_ble_eq_true rfl) (Nat.le_of_ble_eq_true rfl) (Nat.le_of_ble_eq_true rfl) (Nat.le_of_ble_eq_true rfl) mrec rfl rfl (Nat.le_of_ble_eq_true rfl) rfl rfl rfl ?_
                    obtain ⟨w9, ew9⟩ : ∃ wz, (mset (mset w 49 0 (tt)) 50 0 (sI (fZ s3 n3))) = wz := ⟨_, rfl⟩
                    rw [ew9]
                    have hw9 : mWF w9 := ew9 ▸ ((hw.set ⟨by omega, by omega⟩ rfl).setL (sI_L _) rfl rfl)
                    exact z_vret C dX7_adds_205 (Nat.le_of_ble_eq_true rfl) (Nat.le_of_ble_eq_true rfl) ⟨rfl, (congrArg (fun w' => mP θ am ar w' N) (by rw [adW, ett, eX, eY, if_neg (by simp [hb]), ← ew9]; unfold adV cmW; rw [if_neg (by omega), if_neg (by omega), if_neg (by omega), e3]))⟩
                  · skip
                    refine z_dload C 184 5 dX7_adds_182 rfl rfl ?_
                    refine z_dload C 186 6 dX7_adds_184 rfl rfl ?_
                    refine z_daddE (v := FP.dadd (adU tt X) (adU tt Y)) C 187 dX7_adds_186 rfl hv rfl ?_
                    refine z_d2fE (v := gZ s4 n4) C 188 dX7_adds_187 e4 (e4 ▸ d2f_vg hv) rfl ?_
                    refine z_callSF (n' := 0) (k' := 0) (As := [.float (gZ s4 n4)]) (rest := [.int (iI (tt)), .ref (am)]) C hκ hκl 191 (k7_floatBits s4 n4 hr4) dX7_adds_188 q2454 q2455 q97 q2456 znX7_floatBits (Nat.le_of_ble_eq_true rfl) (Nat.le_of_ble_eq_true rfl) (Nat.le_of_ble_eq_true rfl) (Nat.le_of_ble_eq_true rfl) rfl (Nat.le_of_ble_eq_true rfl) rfl rfl rfl ?_
                    refine z_goto C 202 dX7_adds_191 (by decide) ?_
                    refine z_callVF0 (n' := 0) (k' := 0) (As := [.int (iI (tt)), .long (lI (sJ (gZ s4 n4)))]) (rest := []) C hκ hκl 205 (k7_comesTo hD hw (tt) (sJ (gZ s4 n4)) ⟨by omega, by omega⟩ (inR_L (sJ_R _))) dX7_adds_202 q2540 q2542 qs85 q97 q2543 znX7_comesTo (Nat.le_of_ble_eq_true rfl) (Nat.le_of_ble_eq_true rfl) (Nat.le_of_ble_eq_true rfl) (Nat.le_of_ble_eq_true rfl) mrec rfl rfl (Nat.le_of_ble_eq_true rfl) rfl rfl rfl ?_
                    obtain ⟨w10, ew10⟩ : ∃ wz, (mset (mset w 49 0 (tt)) 50 0 (sJ (gZ s4 n4))) = wz := ⟨_, rfl⟩
                    rw [ew10]
                    have hw10 : mWF w10 := ew10 ▸ ((hw.set ⟨by omega, by omega⟩ rfl).setL (inR_L (sJ_R _)) rfl rfl)
                    exact z_vret C dX7_adds_205 (Nat.le_of_ble_eq_true rfl) (Nat.le_of_ble_eq_true rfl) ⟨rfl, (congrArg (fun w' => mP θ am ar w' N) (by rw [adW, ett, eX, eY, if_neg (by simp [hb]), ← ew10]; unfold adV cmW; rw [if_neg (by omega), if_neg (by omega), if_pos (by omega), e4]))⟩
                · skip
                  refine z_aload_n C 158 0 dX7_adds_157 rfl rfl ?_
                  refine z_iconst C 159 dX7_adds_158 rfl ?_
                  refine z_iload_n C 160 1 dX7_adds_159 rfl rfl ?_
                  refine z_aload_n C 161 0 dX7_adds_160 rfl rfl ?_
                  refine m_geti C hκ 164 45 (by decide) rfl q2040 rfl dX7_adds_161 rfl ?_
                  refine z_iconst C 165 dX7_adds_164 rfl ?_
                  refine z_isub C 166 dX7_adds_165 rfl ?_
                  refine z_callVF0 (n' := 0) (k' := 0) (As := [.int (iI (2)), .int (iI (m)), .int (iI ((w 45 0) - (1)))]) (rest := []) C hκ hκl 169 (k7_fails hD hw (2) (m) ((w 45 0) - (1)) ⟨by decide, by decide⟩ r_m ⟨by omega, by omega⟩) dX7_adds_166 q2532 q2534 qs83 q97 q2535 znX7_fails (Nat.le_of_ble_eq_true rfl) (Nat.le_of_ble_eq_true rfl) (Nat.le_of_ble_eq_true rfl) (Nat.le_of_ble_eq_true rfl) mrec rfl rfl (Nat.le_of_ble_eq_true rfl) rfl rfl rfl ?_
                  obtain ⟨w11, ew11⟩ : ∃ wz, (mset (mset (mset (mset w 51 0 (2)) 37 0 (2)) 38 0 (m)) 39 0 ((w 45 0) - (1))) = wz := ⟨_, rfl⟩
                  rw [ew11]
                  have hw11 : mWF w11 := ew11 ▸ ((((hw.set ⟨by decide, by decide⟩ rfl).set ⟨by decide, by decide⟩ rfl).set r_m rfl).set ⟨by omega, by omega⟩ rfl)
                  refine z_goto C 205 dX7_adds_169 (by decide) ?_
                  exact z_vret C dX7_adds_205 (Nat.le_of_ble_eq_true rfl) (Nat.le_of_ble_eq_true rfl) ⟨rfl, (congrArg (fun w' => mP θ am ar w' N) (by rw [adW, ett, eX, eY, if_pos (hB.mpr (by omega)), ← ew11]; rfl))⟩
      have L95_15 : ∀ (fu : Nat)  (h6 : 6 ≤ tt) (hme : 0 < fu), Z κ (mP θ am ar w N) 0 0 95 [(0, .ref (am)), (1, .int (iI (m))), (8, .int (iI (tt))), (9, .long (lI (X))), (11, .long (lI (Y))), (13, .double (adU tt X))] [] := by
        intro fu
        induction fu with
        | zero => intro h6 hme; exact absurd hme (Nat.not_lt_zero _)
        | succ fu ih16 =>
          intro h6 hme
          refine z_iload C 97 2 dX7_adds_95 rfl rfl ?_
          refine z_bipush C 99 dX7_adds_97 (by decide) rfl ?_
          refine z_icmp_ne C 111 102 dX7_adds_99 (by decide) ⟨by omega, by omega⟩ ⟨by decide, by decide⟩ rfl (fun c17 => ?_) (fun c17 => ?_)
          · skip
            refine z_lload C 113 4 dX7_adds_111 rfl rfl ?_
            refine z_callSF (n' := 0) (k' := 0) (As := [.long (lI (Y))]) (rest := []) C hκ hκl 116 (k7_doubleOf Y rY (by rw [← eY, show tt = 7 by omega]; exact wd7 (by omega) hb)) dX7_adds_113 q2548 q2549 q97 q2550 znX7_doubleOf (Nat.le_of_ble_eq_true rfl) (Nat.le_of_ble_eq_true rfl) (Nat.le_of_ble_eq_true rfl) (Nat.le_of_ble_eq_true rfl) rfl (Nat.le_of_ble_eq_true rfl) rfl rfl rfl ?_
            refine z_dstore (lv' := [(0, .ref (am)), (1, .int (iI (m))), (8, .int (iI (tt))), (9, .long (lI (X))), (11, .long (lI (Y))), (13, .double (adU tt X)), (15, .double (U64 Y))]) C 118 [1, 2, 3, 4, 5, 6, 0] dX7_adds_116 (by decide) rfl rfl ?_
            refine z_as (lv' := [(0, .ref (am)), (1, .int (iI (m))), (8, .int (iI (tt))), (9, .long (lI (X))), (11, .long (lI (Y))), (13, .double (adU tt X)), (15, .double (adU tt Y))]) rfl (congrArg (fun z9 => ([(0, .ref (am)), (1, .int (iI (m))), (8, .int (iI (tt))), (9, .long (lI (X))), (11, .long (lI (Y))), (13, .double (adU tt X)), (15, .double (z9))] : List (Nat × Value))) (show (U64 Y) = (adU tt Y) from (by unfold adU; rw [if_neg (by omega)]))) rfl ?_
            exact L118_3 _  (by omega) (Nat.lt_succ_self _)
          · skip
            refine z_lload C 104 4 dX7_adds_102 rfl rfl ?_
            refine z_callSF (n' := 0) (k' := 0) (As := [.long (lI (Y))]) (rest := []) C hκ hκl 107 (k7_floatOf Y rY (by rw [← eY, show tt = 6 by omega]; exact (wd6 (by omega) hb).1) (by rw [← eY, show tt = 6 by omega]; exact (wd6 (by omega) hb).2)) dX7_adds_104 q2431 q2432 q97 q2433 znX7_floatOf (Nat.le_of_ble_eq_true rfl) (Nat.le_of_ble_eq_true rfl) (Nat.le_of_ble_eq_true rfl) (Nat.le_of_ble_eq_true rfl) rfl (Nat.le_of_ble_eq_true rfl) rfl rfl rfl ?_
            refine z_f2dE (v := FP.f2d (U32 Y)) C 108 dX7_adds_107 rfl (f2d_vf (U32_vg (by rw [← eY, show tt = 6 by omega]; exact (wd6 (by omega) hb).2))) rfl ?_
            refine z_goto C 116 dX7_adds_108 (by decide) ?_
            refine z_dstore (lv' := [(0, .ref (am)), (1, .int (iI (m))), (8, .int (iI (tt))), (9, .long (lI (X))), (11, .long (lI (Y))), (13, .double (adU tt X)), (15, .double (FP.f2d (U32 Y)))]) C 118 [1, 2, 3, 4, 5, 6, 0] dX7_adds_116 (by decide) rfl rfl ?_
            refine z_as (lv' := [(0, .ref (am)), (1, .int (iI (m))), (8, .int (iI (tt))), (9, .long (lI (X))), (11, .long (lI (Y))), (13, .double (adU tt X)), (15, .double (adU tt Y))]) rfl (congrArg (fun z9 => ([(0, .ref (am)), (1, .int (iI (m))), (8, .int (iI (tt))), (9, .long (lI (X))), (11, .long (lI (Y))), (13, .double (adU tt X)), (15, .double (z9))] : List (Nat × Value))) (show (FP.f2d (U32 Y)) = (adU tt Y) from (by unfold adU; rw [if_pos (by omega)]))) rfl ?_
            exact L118_3 _  (by omega) (Nat.lt_succ_self _)
      refine z_iload C 74 6 dX7_adds_72 rfl rfl ?_
      refine z_bipush C 76 dX7_adds_74 (by decide) rfl ?_
      refine z_icmp_ne C 88 79 dX7_adds_76 (by decide) ⟨by omega, by omega⟩ ⟨by decide, by decide⟩ rfl (fun c18 => ?_) (fun c18 => ?_)
      · skip
        refine z_lload C 90 7 dX7_adds_88 rfl rfl ?_
        refine z_callSF (n' := 0) (k' := 0) (As := [.long (lI (X))]) (rest := []) C hκ hκl 93 (k7_doubleOf X rX (by rw [← eX, show tt = 7 by omega]; exact wd7 (by omega) ha)) dX7_adds_90 q2548 q2549 q97 q2550 znX7_doubleOf (Nat.le_of_ble_eq_true rfl) (Nat.le_of_ble_eq_true rfl) (Nat.le_of_ble_eq_true rfl) (Nat.le_of_ble_eq_true rfl) rfl (Nat.le_of_ble_eq_true rfl) rfl rfl rfl ?_
        refine z_dstore (lv' := [(0, .ref (am)), (1, .int (iI (m))), (2, .long (lI (a))), (4, .long (lI (b))), (6, .int (iI (p))), (7, .int (iI (q))), (8, .int (iI (tt))), (9, .long (lI (X))), (11, .long (lI (Y))), (13, .double (U64 X))]) C 95 [1, 2, 3, 4, 5, 6, 7, 8, 9, 0] dX7_adds_93 (by decide) rfl rfl ?_
        refine z_sub [0, 1, 6, 7, 8, 9] (lv' := [(0, .ref (am)), (1, .int (iI (m))), (8, .int (iI (tt))), (9, .long (lI (X))), (11, .long (lI (Y))), (13, .double (U64 X))]) rfl ?_
        refine z_as (lv' := [(0, .ref (am)), (1, .int (iI (m))), (8, .int (iI (tt))), (9, .long (lI (X))), (11, .long (lI (Y))), (13, .double (adU tt X))]) rfl (congrArg (fun z9 => ([(0, .ref (am)), (1, .int (iI (m))), (8, .int (iI (tt))), (9, .long (lI (X))), (11, .long (lI (Y))), (13, .double (z9))] : List (Nat × Value))) (show (U64 X) = (adU tt X) from (by unfold adU; rw [if_neg (by omega)]))) rfl ?_
        exact L95_15 _  (by omega) (Nat.lt_succ_self _)
      · skip
        refine z_lload C 81 7 dX7_adds_79 rfl rfl ?_
        refine z_callSF (n' := 0) (k' := 0) (As := [.long (lI (X))]) (rest := []) C hκ hκl 84 (k7_floatOf X rX (by rw [← eX, show tt = 6 by omega]; exact (wd6 (by omega) ha).1) (by rw [← eX, show tt = 6 by omega]; exact (wd6 (by omega) ha).2)) dX7_adds_81 q2431 q2432 q97 q2433 znX7_floatOf (Nat.le_of_ble_eq_true rfl) (Nat.le_of_ble_eq_true rfl) (Nat.le_of_ble_eq_true rfl) (Nat.le_of_ble_eq_true rfl) rfl (Nat.le_of_ble_eq_true rfl) rfl rfl rfl ?_
        refine z_f2dE (v := FP.f2d (U32 X)) C 85 dX7_adds_84 rfl (f2d_vf (U32_vg (by rw [← eX, show tt = 6 by omega]; exact (wd6 (by omega) ha).2))) rfl ?_
        refine z_goto C 93 dX7_adds_85 (by decide) ?_
        refine z_dstore (lv' := [(0, .ref (am)), (1, .int (iI (m))), (2, .long (lI (a))), (4, .long (lI (b))), (6, .int (iI (p))), (7, .int (iI (q))), (8, .int (iI (tt))), (9, .long (lI (X))), (11, .long (lI (Y))), (13, .double (FP.f2d (U32 X)))]) C 95 [1, 2, 3, 4, 5, 6, 7, 8, 9, 0] dX7_adds_93 (by decide) rfl rfl ?_
        refine z_sub [0, 1, 6, 7, 8, 9] (lv' := [(0, .ref (am)), (1, .int (iI (m))), (8, .int (iI (tt))), (9, .long (lI (X))), (11, .long (lI (Y))), (13, .double (FP.f2d (U32 X)))]) rfl ?_
        refine z_as (lv' := [(0, .ref (am)), (1, .int (iI (m))), (8, .int (iI (tt))), (9, .long (lI (X))), (11, .long (lI (Y))), (13, .double (adU tt X))]) rfl (congrArg (fun z9 => ([(0, .ref (am)), (1, .int (iI (m))), (8, .int (iI (tt))), (9, .long (lI (X))), (11, .long (lI (Y))), (13, .double (z9))] : List (Nat × Value))) (show (FP.f2d (U32 X)) = (adU tt X) from (by unfold adU; rw [if_pos (by omega)]))) rfl ?_
        exact L95_15 _  (by omega) (Nat.lt_succ_self _)
    · skip
      refine z_aload_n C 59 0 dX7_adds_58 rfl rfl ?_
      refine z_iload C 61 6 dX7_adds_59 rfl rfl ?_
      refine z_lload C 63 7 dX7_adds_61 rfl rfl ?_
      refine z_lload C 65 8 dX7_adds_63 rfl rfl ?_
      refine z_ladd C 66 dX7_adds_65 rfl ?_
      refine z_as (st' := [.long (lI (w64 (((X) + (Y))))), .int (iI (tt)), .ref (am)]) rfl rfl (congrArg (fun z9 => ([.long z9, .int (iI (tt)), .ref (am)] : List Value)) (lI_w64 _).symm) ?_
      refine z_callVF0 (n' := 0) (k' := 0) (As := [.int (iI (tt)), .long (lI (w64 (((X) + (Y)))))]) (rest := []) C hκ hκl 69 (k7_comesTo hD hw (tt) (w64 (((X) + (Y)))) ⟨by omega, by omega⟩ (w64_L _)) dX7_adds_66 q2540 q2542 qs85 q97 q2543 znX7_comesTo (Nat.le_of_ble_eq_true rfl) (Nat.le_of_ble_eq_true rfl) (Nat.le_of_ble_eq_true rfl) (Nat.le_of_ble_eq_true rfl) mrec rfl rfl (Nat.le_of_ble_eq_true rfl) rfl rfl rfl ?_
      obtain ⟨w12, ew12⟩ : ∃ wz, (mset (mset w 49 0 (tt)) 50 0 (w64 (((X) + (Y))))) = wz := ⟨_, rfl⟩
      rw [ew12]
      have hw12 : mWF w12 := ew12 ▸ ((hw.set ⟨by omega, by omega⟩ rfl).setL (w64_L _) rfl rfl)
      refine z_goto C 205 dX7_adds_69 (by decide) ?_
      exact z_vret C dX7_adds_205 (Nat.le_of_ble_eq_true rfl) (Nat.le_of_ble_eq_true rfl) ⟨rfl, (congrArg (fun w' => mP θ am ar w' N) (by rw [adW, ett, eX, eY, if_neg (by unfold adB; simp; omega), ← ew12]; unfold adV cmW; rw [if_neg (by omega), if_pos (by omega)]))⟩
  · skip
    refine z_aload_n C 37 0 dX7_adds_36 rfl rfl ?_
    refine z_iload C 39 6 dX7_adds_37 rfl rfl ?_
    refine z_lload C 41 7 dX7_adds_39 rfl rfl ?_
    refine z_lload C 43 8 dX7_adds_41 rfl rfl ?_
    refine z_ladd C 44 dX7_adds_43 rfl ?_
    refine z_l2i C 45 dX7_adds_44 rfl ?_
    refine z_as (st' := [.int (iI (w32 (((X) + (Y))))), .int (iI (tt)), .ref (am)]) rfl rfl (congrArg (fun z9 => ([.int z9, .int (iI (tt)), .ref (am)] : List Value)) (iI_w32 _).symm) ?_
    refine z_i2l C 46 dX7_adds_45 (w32_R _) rfl ?_
    refine z_callVF0 (n' := 0) (k' := 0) (As := [.int (iI (tt)), .long (lI (w32 (((X) + (Y)))))]) (rest := []) C hκ hκl 49 (k7_comesTo hD hw (tt) (w32 (((X) + (Y)))) ⟨by omega, by omega⟩ (inR_L (w32_R _))) dX7_adds_46 q2540 q2542 qs85 q97 q2543 znX7_comesTo (Nat.le_of_ble_eq_true rfl) (Nat.le_of_ble_eq_true rfl) (Nat.le_of_ble_eq_true rfl) (Nat.le_of_ble_eq_true rfl) mrec rfl rfl (Nat.le_of_ble_eq_true rfl) rfl rfl rfl ?_
    obtain ⟨w13, ew13⟩ : ∃ wz, (mset (mset w 49 0 (tt)) 50 0 (w32 (((X) + (Y))))) = wz := ⟨_, rfl⟩
    rw [ew13]
    have hw13 : mWF w13 := ew13 ▸ ((hw.set ⟨by omega, by omega⟩ rfl).setL (inR_L (w32_R _)) rfl rfl)
    refine z_goto C 205 dX7_adds_49 (by decide) ?_
    exact z_vret C dX7_adds_205 (Nat.le_of_ble_eq_true rfl) (Nat.le_of_ble_eq_true rfl) ⟨rfl, (congrArg (fun w' => mP θ am ar w' N) (by rw [adW, ett, eX, eY, if_neg (by unfold adB; simp; omega), ← ew13]; unfold adV cmW; rw [if_pos (by omega)]))⟩
