/-! ===== those above a type are found anew ===== -/
def lUp (Lf : Int → List Int) (t : Int) (L : List Int) : Int → List Int := fun x => if x = t then L else Lf x
theorem lUp_s {Lf : Int → List Int} {t : Int} {L : List Int} : lUp Lf t L t = L := if_pos rfl
theorem lUp_n {Lf : Int → List Int} {t x : Int} {L : List Int} (h : x ≠ t) : lUp Lf t L x = Lf x := if_neg h
theorem lUp_up {Lf : Int → List Int} {t : Int} {L L' : List Int} : lUp (lUp Lf t L) t L' = lUp Lf t L' := by funext x; unfold lUp; split <;> rfl
theorem lUp_id {Lf : Int → List Int} {t : Int} : lUp Lf t (Lf t) = Lf := by funext x; unfold lUp; split; rename_i h; rw [h]; rfl
section XLI
variable {θ : zTh} {σ : xA} {w : mW} {Lf : Int → List Int} {M M' : zMap} {t : Int} {L : List Int}
theorem xM_list (hX : xM θ σ w Lf M) (ht : 0 ≤ t ∧ t < w 0 0) (hno : ∀ x : Int, 0 ≤ x → x < w 27 0 → w 28 x ≠ t) (h10 : M' (σ 10 t) = some (.inr (xci w t, xTyG σ w t L.length))) (h12 : ∃ f, M' (σ 12 t) = some (.inl (θ.2.1 8, 60, xQ f)) ∧ ∀ (j : Nat) (a : Int), L[j]? = some a → f j = some (σ 10 a))
    (h13 : ∃ f : Nat → Int32, M' (σ 13 t) = some (.inl (θ.2.1 0, 60, .inl f)) ∧ ∀ j : Nat, j < 60 → f j = iI (bI (decide ((j : Int) ∈ L)))) (hfr : ∀ (b : Nat) (e : va_E), M b = some e → b ≠ σ 10 t → b ≠ σ 12 t → b ≠ σ 13 t → M' b = some e) : xM θ σ w (lUp Lf t L) M' := by
  have hl : ∀ (k : Nat) (i : Int), xLv w (lUp Lf t L) k i ↔ xLv w Lf k i := fun k i => by
    unfold xLv
    by_cases hc : 0 ≤ i / 100 ∧ i / 100 < w 27 0
    · rw [lUp_n (hno _ hc.1 hc.2)]
    · have h33 : ∀ P Q : Prop, (k = 33 ∧ 0 ≤ i / 100 ∧ i / 100 < w 27 0 ∧ P) ↔ (k = 33 ∧ 0 ≤ i / 100 ∧ i / 100 < w 27 0 ∧ Q) := fun P Q => ⟨fun h => absurd ⟨h.2.1, h.2.2.1⟩ hc, fun h => absurd ⟨h.2.1, h.2.2.1⟩ hc⟩
      rw [h33 _ (w 29 (i / 100) = -1 ∧ i % 100 < w 11 0 ∧ w 16 (i % 100) = 1 ∧ hasB w (i % 100) 4 = false ∧ w 13 (i % 100) ∈ Lf (w 28 (i / 100)))]
  refine hX.upd (fun k i => i = t ∧ (k = 10 ∨ k = 12 ∨ k = 13)) (fun k i h p => ⟨(hl k i).mp h, rfl, ?_, fun e h9 => ?_⟩) (fun k i h p => ?_) (fun k i k' j h p h' e => hX.1 _ _ _ _ ((hl k i).mp h) ((hl k' j).mp h') e)
  · obtain ⟨e, h1, h2⟩ := hX.2 k i ((hl k i).mp h)
    rw [h1]
    have hh := (hl k i).mp h
    exact hfr _ _ h1 (fun z => p (by have := hX.1 _ _ _ _ hh (lvT (Or.inl rfl) ht.1 ht.2) z; exact ⟨this.2, Or.inl this.1⟩)) (fun z => p (by have := hX.1 _ _ _ _ hh (lvT (Or.inr (Or.inr (Or.inl rfl))) ht.1 ht.2) z; exact ⟨this.2, Or.inr (Or.inl this.1)⟩)) (fun z => p (by have := hX.1 _ _ _ _ hh (lvT (Or.inr (Or.inr (Or.inr rfl))) ht.1 ht.2) z; exact ⟨this.2, Or.inr (Or.inr this.1)⟩))
  · rcases xLv_k h with rfl | rfl | rfl | rfl | rfl | rfl | rfl | rfl | rfl | rfl | rfl | rfl | rfl | rfl | rfl | rfl | rfl | rfl | rfl | rfl
    case inr.inr.inr.inr.inr.inr.inr.inl =>
      have hi : i ≠ t := fun z => p ⟨z, Or.inl rfl⟩
      show e = _
      rw [lUp_n hi]; exact h9
    case inr.inr.inr.inr.inr.inr.inr.inr.inr.inl =>
      have hi : i ≠ t := fun z => p ⟨z, Or.inr (Or.inl rfl)⟩
      show ∃ f, _
      rw [lUp_n hi]; exact h9
    case inr.inr.inr.inr.inr.inr.inr.inr.inr.inr.inl =>
      have hi : i ≠ t := fun z => p ⟨z, Or.inr (Or.inr rfl)⟩
      show ∃ f, _
      rw [lUp_n hi]; exact h9
    case inr.inr.inr.inr.inr.inr.inr.inr.inr.inr.inr.inr.inr.inr.inr.inr.inl =>
      have hi : w 28 i ≠ t := by
        unfold xLv at h
        exact hno i (by omega) (by omega)
      show ∃ f, _
      rw [lUp_n hi]; exact h9
    all_goals exact h9
  · rcases p with ⟨rfl, rfl | rfl | rfl⟩
    · exact ⟨_, h10, by show _ = _; rw [lUp_s]⟩
    · obtain ⟨f, g1, g2⟩ := h12
      exact ⟨_, g1, f, rfl, by rw [lUp_s]; exact g2⟩
    · obtain ⟨f, g1, g2⟩ := h13
      exact ⟨_, g1, f, rfl, by rw [lUp_s]; exact g2⟩
end XLI
section XTR
variable {κ : zK} {own nm : String} {cc : ByteArray} {nL : Nat} {ret : Option FieldType} {rm : Room} {P : Option Value → (Heap → Prop) → Prop} {n k pc : Nat} {lv : List (Nat × Value)} {st rest : List Value}
variable {θ : zTh} {σ : xA} {w : mW} {Lf : Int → List Int} {M N : zMap} {index : Nat} {ref : String}
/-- a field that all types have, of a type that stands at σ 10 t -/
theorem x_tgetA (C : ZC κ own nm cc nL ret rm P) (hκ : κ.1 = θ) {t n9 : Int} {v : Value} (q kf : Nat) (hM : M (σ 10 t) = some (.inr (xci w t, xTyG σ w t n9))) (hs : xS w) (h0 : 0 ≤ t) (h1 : t < w 0 0) (hk : kf < 8) (e4 : TX4 kf = TX3 kf) (e5 : TX5 kf = TX3 kf) (e8 : TX8 kf = TX3 kf) (hlink : Cond.fieldLink own index ref (TX3 kf).2.1 (TX3 kf).2.2.1 ∈ lw_all) (hsame : ref = (TX3 kf).1 ∨ Cond.sameField ref (TX3 kf).1 (TX3 kf).2.1 (TX3 kf).2.2.1 ∈ lw_all) (hv : (xT8 σ w t n9)[kf]? = some v) (d : decode cc pc = .ok (.getfield index, 3)) (hq : pc + 3 = q) (kk : Z κ (zP θ M N) n k q lv (v :: rest)) : Z κ (zP θ M N) n k pc lv (.ref (σ 10 t) :: rest) := by
  have hv' := xTy_k hv
  rcases hs.cls h0 h1 with ⟨-, h, -⟩ | ⟨-, -, h⟩ | ⟨-, -, h⟩ | ⟨-, -, h⟩ <;> rw [h] at hM
  · exact z_getf C hκ q kf zk_X3 hM (by omega) hlink hsame hv' d hq kk
  · exact z_getf C hκ q kf zk_X4 hM (by omega) (by rw [e4]; exact hlink) (by rw [e4]; exact hsame) hv' d hq kk
  · exact z_getf C hκ q kf zk_X5 hM (by omega) (by rw [e5]; exact hlink) (by rw [e5]; exact hsame) hv' d hq kk
  · exact z_getf C hκ q kf zk_X8 hM (by omega) (by rw [e8]; exact hlink) (by rw [e8]; exact hsame) hv' d hq kk
theorem xTyG_len {t n9 : Int} : 8 ≤ (xTyG σ w t n9).length := by
  unfold xTyG xT8; rw [List.length_append]; simp
/-- .. is put -/
theorem x_tputA (C : ZC κ own nm cc nL ret rm P) (hκ : κ.1 = θ) {t : Int} {v : Value} {fs fs' : List Value} (q kf : Nat) (hM : M (σ 10 t) = some (.inr (xci w t, fs))) (hl8 : 8 ≤ fs.length) (hs : xS w) (h0 : 0 ≤ t) (h1 : t < w 0 0) (hk : kf < 8) (e4 : TX4 kf = TX3 kf) (e5 : TX5 kf = TX3 kf) (e8 : TX8 kf = TX3 kf) (f4 : tyX4 kf = tyX3 kf) (f5 : tyX5 kf = tyX3 kf) (f8 : tyX8 kf = tyX3 kf) (hlink : Cond.fieldLink own index ref (TX3 kf).2.1 (TX3 kf).2.2.1 ∈ lw_all) (hsame : ref = (TX3 kf).1 ∨ Cond.sameField ref (TX3 kf).1 (TX3 kf).2.1 (TX3 kf).2.2.1 ∈ lw_all) (hfin : (TX3 kf).2.2.2 = false) (hn : narrow (tyX3 kf) v = v) (hfit : fits (tyX3 kf) v = true) (hfs : fs.set kf v = fs') (d : decode cc pc = .ok (.putfield index, 3)) (hq : pc + 3 = q) (kk : Z κ (zP θ (zup M (σ 10 t) (.inr (xci w t, fs'))) N) n k q lv rest) : Z κ (zP θ M N) n k pc lv (v :: .ref (σ 10 t) :: rest) := by
  rcases hs.cls h0 h1 with ⟨-, h, -⟩ | ⟨-, -, h⟩ | ⟨-, -, h⟩ | ⟨-, -, h⟩ <;> rw [h] at hM kk
  · exact z_putf C hκ q kf zk_X3 hM (by omega) hlink hsame hfin hn hfit (by omega) hfs d hq kk
  · exact z_putf C hκ q kf zk_X4 hM (by omega) (by rw [e4]; exact hlink) (by rw [e4]; exact hsame) (by rw [e4]; exact hfin) (by rw [f4]; exact hn) (by rw [f4]; exact hfit) (by omega) hfs d hq kk
  · exact z_putf C hκ q kf zk_X5 hM (by omega) (by rw [e5]; exact hlink) (by rw [e5]; exact hsame) (by rw [e5]; exact hfin) (by rw [f5]; exact hn) (by rw [f5]; exact hfit) (by omega) hfs d hq kk
  · exact z_putf C hκ q kf zk_X8 hM (by omega) (by rw [e8]; exact hlink) (by rw [e8]; exact hsame) (by rw [e8]; exact hfin) (by rw [f8]; exact hn) (by rw [f8]; exact hfit) (by omega) hfs d hq kk
theorem xTyG_5 {t n9 n8 : Int} : (xTyG σ w t n9).set 5 (.int (iI n8)) = xTyG σ w t n8 := by
  unfold xTyG xT8; split
  · rfl
  · split <;> rfl
end XTR
def clF (f : Nat → Int32) (k : Nat) : Nat → Int32 := fun j => if j < k then iI 0 else f j
theorem clF_0 {f : Nat → Int32} : clF f 0 = f := by funext j; unfold clF; rw [if_neg (by omega)]
theorem clF_s {f : Nat → Int32} {k : Nat} : upd (clF f k) ((k : Int).toNat) (iI 0) = clF f (k + 1) := by
  funext j; unfold upd clF
  by_cases h : j = k
  · subst h; rw [if_pos (by omega), if_pos (by omega)]
  · rw [if_neg (by omega)]
    by_cases h2 : j < k
    · rw [if_pos h2, if_pos (by omega)]
    · rw [if_neg h2, if_neg (by omega)]
abbrev xLs (θ : zTh) (σ : xA) (w : mW) (N : zMap) (Lf' : Int → List Int) : Option Value → (Heap → Prop) → Prop := fun v9 Q9 => v9 = none ∧ ∃ M' : zMap, Q9 = zP θ M' N ∧ xM θ σ w Lf' M'
section XTS
variable {κ : zK} {own nm : String} {cc : ByteArray} {nL : Nat} {ret : Option FieldType} {rm : Room} {P : Option Value → (Heap → Prop) → Prop} {n k pc : Nat} {lv : List (Nat × Value)} {st rest : List Value}
variable {θ : zTh} {σ : xA} {w : mW} {Lf : Int → List Int} {M N : zMap} {index : Nat} {ref : String}
/-- a type into a row of types -/
theorem x_astT (C : ZC κ own nm cc nL ret rm P) (hκ : κ.1 = θ) (hT : zTb θ) {a len : Nat} {f f' : Nat → Option Nat} {x i : Int} {fs : List Value} (q : Nat) (hM : M a = some (.inl (θ.2.1 8, len, xQ f))) (hx : M (σ 10 x) = some (.inr (xci w x, fs))) (hs : xS w) (x0 : 0 ≤ x) (x1 : x < w 0 0) (h0 : 0 ≤ i) (h1 : i < (len : Int)) (h2 : len ≤ 2147483647) (hf : va_up f i.toNat (some (σ 10 x)) = f') (d : decode cc pc = .ok (.aastore, 1)) (hq : pc + 1 = q) (kk : Z κ (zP θ (zup M a (.inl (θ.2.1 8, len, xQ f'))) N) n k q lv rest) : Z κ (zP θ M N) n k pc lv (.ref (σ 10 x) :: .int (iI i) :: .ref a :: rest) := by
  rcases hs.cls x0 x1 with ⟨-, h, -⟩ | ⟨-, -, h⟩ | ⟨-, -, h⟩ | ⟨-, -, h⟩ <;> rw [h] at hx
  · exact z_qastO C hκ hT q 8 hM rfl hx rfl q2630 h0 h1 h2 hf d hq kk
  · exact z_qastO C hκ hT q 8 hM rfl hx rfl q2632 h0 h1 h2 hf d hq kk
  · exact z_qastO C hκ hT q 8 hM rfl hx rfl q2631 h0 h1 h2 hf d hq kk
  · exact z_qastO C hκ hT q 8 hM rfl hx rfl q2633 h0 h1 h2 hf d hq kk
end XTS
theorem rg60 {T : Int} {L : List Int} {x : Int} (h : rgL T L) (hT : 0 ≤ T) (h60 : T ≤ 60) (hx : 0 ≤ x ∧ x < T) (hn : x ∉ L) : (L.length : Int) < 60 := by
  have h2 : rgL T (L ++ [x]) := by have := adL_rg h hx; unfold adL at this; rw [if_neg hn] at this; exact this
  have := rgL_le h2 hT
  rw [List.length_append] at this; simp at this; omega
theorem adA_none {L : List Int} {r : Bool} : adA L r [] = L := rfl
theorem up_at {σ : xA} {L : List Int} {f : Nat → Option Nat} {x : Int} (h : ∀ (j : Nat) (a : Int), L[j]? = some a → f j = some (σ 10 a)) {j : Nat} {a : Int} (hj : (L ++ [x])[j]? = some a) : va_up f ((L.length : Int).toNat) (some (σ 10 x)) j = some (σ 10 a) := by
  unfold va_up
  by_cases e : j = L.length
  · subst e
    rw [List.getElem?_append_right (Nat.le_refl _), Nat.sub_self] at hj
    simp at hj
    rw [if_pos (by omega), hj]
  · rw [if_neg (by omega)]
    have hl : j < L.length := by
      have := (List.getElem?_eq_some_iff.mp hj).1
      rw [List.length_append] at this; simp at this; omega
    rw [List.getElem?_append_left hl] at hj
    exact h j a hj
theorem hs_at {L : List Int} {f : Nat → Int32} {x : Int} (h : ∀ j : Nat, j < 60 → f j = iI (bI (decide ((j : Int) ∈ L)))) (hx : 0 ≤ x) (j : Nat) (hj : j < 60) : upd f (x.toNat) (iI 1) j = iI (bI (decide ((j : Int) ∈ L ++ [x]))) := by
  unfold upd
  by_cases e : j = x.toNat
  · rw [if_pos e, decide_eq_true (by rw [List.mem_append, List.mem_singleton]; right; omega)]; rfl
  · rw [if_neg e, h j hj]
    have : ((j : Int) ∈ L ++ [x]) ↔ ((j : Int) ∈ L) := by rw [List.mem_append, List.mem_singleton]; constructor; rintro (z | z); exact z; omega; exact Or.inl
    simp only [this]

set_option maxRecDepth 100000 in
theorem k2_clear {l : Launch} {θ : zTh} {σ : xA} {w : mW} {Lf : Int → List Int} {M N : zMap} (hX : xM θ σ w (Lf) M) (hs : xS w) (hw : mWF w) (hT : zTb θ) (t : Int)  (ht : 0 ≤ t ∧ t < w 0 0) (hno : ∀ x : Int, 0 ≤ x → x < w 27 0 → w 28 x ≠ t) : ZM θ l yX2_clear cX2_clear 2 none ⟨0, 0, 0, 0⟩ [.ref (σ 10 (t))] (zP θ M N) (xLs θ σ w N (lUp Lf t ([]))) := by
  refine z_start (own := RX2) (nm := "clear") pnX2 rfl rfl (Nat.le_of_ble_eq_true rfl) ?_
  intro κ hκ hκl C
  change Z κ (zP θ M N) 0 0 0 [(0, .ref (σ 10 (t)))] []
  have hS := hs.S
  have hB := hS.B
  obtain ⟨hB1, hB2, hB3, hB4, hB5, hB6⟩ := hS.B
  have hC := hS.C
  obtain ⟨h81, h82⟩ := hs.r8
  obtain ⟨f, hf1, hf2⟩ := hX.hs ht.1 ht.2
  obtain ⟨ab9, hab1, hab2⟩ := hX.ab ht.1 ht.2
  refine z_aload_n C 1 0 dX2_clear_0 rfl rfl ?_
  refine z_iconst C 2 dX2_clear_1 rfl ?_
  refine x_tputA (w := w) (fs' := xTyG σ w (t) (0)) C hκ 5 5 (hX.ty (by omega) (by omega)) xTyG_len hs (by omega) (by omega) (by decide) rfl rfl rfl rfl rfl rfl q196 (Or.inl rfl) rfl rfl rfl xTyG_5 dX2_clear_2 rfl ?_
  obtain ⟨M1, eM1⟩ : ∃ z9 : zMap, zup M (σ 10 (t)) (.inr (xci w (t), xTyG σ w (t) (0)) : va_E) = z9 := ⟨_, rfl⟩
  rw [eM1]
  have o1 : M1 (σ 10 (t)) = some (.inr (xci w (t), xTyG σ w (t) (0))) := eM1 ▸ zup_s
  have h13 : M1 (σ 13 (t)) = some (.inl (θ.2.1 0, 60, .inl f)) := by rw [← eM1]; exact (zup_n (hX.ne (lvT (Or.inr (Or.inr (Or.inr rfl))) ht.1 ht.2) (lvT (Or.inl rfl) ht.1 ht.2) (by decide))).trans hf1
  have hM1t := o1
  refine z_iconst C 6 dX2_clear_5 rfl ?_
  refine z_istore_n (lv' := [(0, .ref (σ 10 (t))), (1, .int (iI (0)))]) C 7 [1, 0] dX2_clear_6 (by decide) rfl rfl ?_
  have L7_2 : ∀ (fu : Nat) (k : Nat) (hk : k ≤ 60) (hme : 60 - k < fu), Z κ (zP θ (zup M1 (σ 13 (t)) (.inl (θ.2.1 0, 60, .inl (clF f (k))))) N) 0 0 7 [(0, .ref (σ 10 (t))), (1, .int (iI ((k : Int))))] [] := by
    intro fu
    induction fu with
    | zero => intro k hk hme; exact absurd hme (Nat.not_lt_zero _)
    | succ fu ih3 =>
      intro k hk hme
      refine z_iload_n C 8 1 dX2_clear_7 rfl rfl ?_
      refine z_bipush C 10 dX2_clear_8 (by decide) rfl ?_
      refine z_icmp_ge C 26 13 dX2_clear_10 (by decide) ⟨by omega, by omega⟩ ⟨by decide, by decide⟩ rfl (fun c4 => ?_) (fun c4 => ?_)
      · skip
        exact z_vret C dX2_clear_26 (Nat.le_of_ble_eq_true rfl) (Nat.le_of_ble_eq_true rfl) (by have hk60 : k = 60 := (by omega); subst hk60; exact ⟨rfl, _, rfl, xM_list hX ht hno ((zup_n (hX.ne (lvT (Or.inl rfl) ht.1 ht.2) (lvT (Or.inr (Or.inr (Or.inr rfl))) ht.1 ht.2) (by decide))).trans hM1t) ⟨ab9, (zup_n (hX.ne (lvT (Or.inr (Or.inr (Or.inl rfl))) ht.1 ht.2) (lvT (Or.inr (Or.inr (Or.inr rfl))) ht.1 ht.2) (by decide))).trans (by rw [← eM1]; exact (zup_n (hX.ne (lvT (Or.inr (Or.inr (Or.inl rfl))) ht.1 ht.2) (lvT (Or.inl rfl) ht.1 ht.2) (by decide))).trans hab1), fun j a hj => by simp at hj⟩ ⟨clF f 60, zup_s, fun j hj => by unfold clF; rw [if_pos hj]; rfl⟩ (fun b e g h1 h2 h3 => (zup_n h3).trans (by rw [← eM1]; exact (zup_n h1).trans g))⟩)
      · skip
        refine z_aload_n C 14 0 dX2_clear_13 rfl rfl ?_
        obtain ⟨f5a, f5b, f5c, f5d, f5e, f5f, f5g, f5h⟩ := hS.T (show 0 ≤ t by omega) (by omega)
        obtain ⟨f5i, f5j, f5k, f5l⟩ := hs.ty (show 0 ≤ t by omega) (by omega)
        refine x_tgetA (v := .ref (σ 13 (t))) C hκ 17 6 ((zup_n (hX.ne (lvT (Or.inl rfl) ht.1 ht.2) (lvT (Or.inr (Or.inr (Or.inr rfl))) ht.1 ht.2) (by decide))).trans hM1t) hs (by omega) (by omega) (by decide) rfl rfl rfl q197 (Or.inl rfl) rfl dX2_clear_14 rfl ?_
        refine z_iload_n C 18 1 dX2_clear_17 rfl rfl ?_
        refine z_iconst C 19 dX2_clear_18 rfl ?_
        refine z_zast C hκ 20 (zup_s (M := M1) (a := σ 13 (t)) (e := .inl (θ.2.1 0, 60, .inl (clF f k)))) (by omega) (by omega) (by decide) (by decide) clF_s dX2_clear_19 rfl ?_
        refine z_as (Pic' := zP θ (zup M1 (σ 13 (t)) (.inl (θ.2.1 0, 60, .inl (clF f (k + 1))))) N) (congrArg (fun z9 => zP θ z9 N) zup_up) rfl rfl ?_
        refine z_iinc (lv' := [(0, .ref (σ 10 (t))), (1, .int (iI (((k : Int)) + 1)))]) C 23 1 [1, 0] dX2_clear_20 rfl (by decide) rfl rfl ?_
        refine z_goto C 7 dX2_clear_23 (by decide) ?_
        refine z_as (lv' := [(0, .ref (σ 10 (t))), (1, .int (iI (((k + 1) : Int))))]) rfl rfl rfl ?_
        exact ih3 (k + 1) (by omega) (by omega)
  refine z_as (Pic' := zP θ (zup M1 (σ 13 (t)) (.inl (θ.2.1 0, 60, .inl (clF f (0))))) N) (by rw [clF_0, zup_id h13]) rfl rfl ?_
  refine z_as (lv' := [(0, .ref (σ 10 (t))), (1, .int (iI (((0) : Int))))]) rfl rfl rfl ?_
  exact L7_2 _ (0) (by omega) (Nat.lt_succ_self _)
set_option maxRecDepth 100000 in
theorem k2_add {l : Launch} {θ : zTh} {σ : xA} {w : mW} {Lf : Int → List Int} {M N : zMap} (hX : xM θ σ w (Lf) M) (hs : xS w) (hw : mWF w) (hT : zTb θ) (t : Int) (x : Int)  (ht : 0 ≤ t ∧ t < w 0 0) (hno : ∀ x : Int, 0 ≤ x → x < w 27 0 → w 28 x ≠ t) (hx : 0 ≤ x ∧ x < w 0 0) (hrg : rgL (w 0 0) (Lf t)) : ZM θ l yX2_add cX2_add 2 none ⟨0, 0, 0, 0⟩ [.ref (σ 10 (t)), .ref (σ 10 (x))] (zP θ M N) (xLs θ σ w N (lUp Lf t (adL (Lf t) x))) := by
  refine z_start (own := RX2) (nm := "add") pnX2 rfl rfl (Nat.le_of_ble_eq_true rfl) ?_
  intro κ hκ hκl C
  change Z κ (zP θ M N) 0 0 0 [(0, .ref (σ 10 (t))), (1, .ref (σ 10 (x)))] []
  have hS := hs.S
  have hB := hS.B
  obtain ⟨hB1, hB2, hB3, hB4, hB5, hB6⟩ := hS.B
  have hC := hS.C
  obtain ⟨h81, h82⟩ := hs.r8
  obtain ⟨f, hf1, hf2⟩ := hX.hs ht.1 ht.2
  obtain ⟨ab9, hab1, hab2⟩ := hX.ab ht.1 ht.2
  refine z_aload_n C 1 0 dX2_add_0 rfl rfl ?_
  obtain ⟨f1a, f1b, f1c, f1d, f1e, f1f, f1g, f1h⟩ := hS.T (show 0 ≤ t by omega) (by omega)
  obtain ⟨f1i, f1j, f1k, f1l⟩ := hs.ty (show 0 ≤ t by omega) (by omega)
  refine x_tget (v := .ref (σ 13 (t))) C hκ 4 6 hX hs (by omega) (by omega) (by decide) rfl rfl rfl q197 (Or.inl rfl) rfl dX2_add_1 rfl ?_
  refine z_aload_n C 5 1 dX2_add_4 rfl rfl ?_
  obtain ⟨f2a, f2b, f2c, f2d, f2e, f2f, f2g, f2h⟩ := hS.T (show 0 ≤ x by omega) (by omega)
  obtain ⟨f2i, f2j, f2k, f2l⟩ := hs.ty (show 0 ≤ x by omega) (by omega)
  refine x_tget (v := .int (iI (x))) C hκ 8 0 hX hs (by omega) (by omega) (by decide) rfl rfl rfl q175 (Or.inl rfl) rfl dX2_add_5 rfl ?_
  refine x_ahs C hκ 9 hX (by omega) (by omega) (by omega) (by omega) dX2_add_8 rfl ?_
  refine z_ifB_ne C 42 12 dX2_add_9 (by decide) rfl (fun c3 => ?_) (fun c3 => ?_)
  · skip
    have c3b : (((x) ∈ (Lf) (t))) := of_decide_eq_true c3
    have hfin : xLs θ σ w N (lUp Lf t (adL (Lf t) x)) none (zP θ M N) := by unfold adL; rw [if_pos (by assumption), lUp_id]; exact ⟨rfl, M, rfl, hX⟩
    exact z_vret C dX2_add_42 (Nat.le_of_ble_eq_true rfl) (Nat.le_of_ble_eq_true rfl) hfin
  · skip
    have c3b : ¬ (((x) ∈ (Lf) (t))) := of_decide_eq_false c3
    have hin9 : x ∉ Lf t := (by assumption)
    have h60 := rg60 hrg (by omega) hB2 hx hin9
    refine z_aload_n C 13 0 dX2_add_12 rfl rfl ?_
    refine x_tget (v := .ref (σ 13 (t))) C hκ 16 6 hX hs (by omega) (by omega) (by decide) rfl rfl rfl q197 (Or.inl rfl) rfl dX2_add_13 rfl ?_
    refine z_aload_n C 17 1 dX2_add_16 rfl rfl ?_
    refine x_tget (v := .int (iI (x))) C hκ 20 0 hX hs (by omega) (by omega) (by decide) rfl rfl rfl q175 (Or.inl rfl) rfl dX2_add_17 rfl ?_
    refine z_iconst C 21 dX2_add_20 rfl ?_
    refine z_zast C hκ 22 hf1 (by omega) (by omega) (by decide) (by decide) rfl dX2_add_21 rfl ?_
    obtain ⟨M1, eM1⟩ : ∃ z9 : zMap, zup M (σ 13 (t)) (.inl (θ.2.1 0, 60, .inl (upd f ((x).toNat) (iI 1))) : va_E) = z9 := ⟨_, rfl⟩
    rw [eM1]
    have hM1t : M1 (σ 10 (t)) = some (.inr (xci w (t), xTyG σ w (t) ((Lf (t)).length : Int))) := eM1 ▸ (zup_n (hX.ne (lvT (Or.inl rfl) ht.1 ht.2) (lvT (Or.inr (Or.inr (Or.inr rfl))) ht.1 ht.2) (by decide))).trans (hX.ty ht.1 ht.2)
    have hM1x : M1 (σ 10 (x)) = some (.inr (xci w (x), xTyG σ w (x) ((Lf (x)).length : Int))) := eM1 ▸ (zup_n (hX.ne (lvT (Or.inl rfl) hx.1 hx.2) (lvT (Or.inr (Or.inr (Or.inr rfl))) ht.1 ht.2) (by decide))).trans (hX.ty hx.1 hx.2)
    have hM1a : M1 (σ 12 (t)) = some (.inl (θ.2.1 8, 60, xQ ab9)) := eM1 ▸ (zup_n (hX.ne (lvT (Or.inr (Or.inr (Or.inl rfl))) ht.1 ht.2) (lvT (Or.inr (Or.inr (Or.inr rfl))) ht.1 ht.2) (by decide))).trans hab1
    refine z_aload_n C 23 0 dX2_add_22 rfl rfl ?_
    refine x_tgetA (v := .ref (σ 12 (t))) C hκ 26 4 hM1t hs (by omega) (by omega) (by decide) rfl rfl rfl q193 (Or.inl rfl) rfl dX2_add_23 rfl ?_
    refine z_aload_n C 27 0 dX2_add_26 rfl rfl ?_
    refine x_tgetA (v := .int (iI (((Lf (t)).length : Int)))) C hκ 30 5 hM1t hs (by omega) (by omega) (by decide) rfl rfl rfl q196 (Or.inl rfl) rfl dX2_add_27 rfl ?_
    refine z_aload_n C 31 1 dX2_add_30 rfl rfl ?_
    refine x_astT (i := ((Lf (t)).length : Int)) C hκ hT 32 hM1a hM1x hs hx.1 hx.2 (by omega) (by omega) (by decide) rfl dX2_add_31 rfl ?_
    obtain ⟨M2, eM2⟩ : ∃ z9 : zMap, zup M1 (σ 12 (t)) (.inl (θ.2.1 8, 60, xQ (va_up ab9 (((Lf (t)).length : Int).toNat) (some (σ 10 (x))))) : va_E) = z9 := ⟨_, rfl⟩
    rw [eM2]
    have hM2t : M2 (σ 10 (t)) = some (.inr (xci w (t), xTyG σ w (t) ((Lf (t)).length : Int))) := eM2 ▸ (zup_n (hX.ne (lvT (Or.inl rfl) ht.1 ht.2) (lvT (Or.inr (Or.inr (Or.inl rfl))) ht.1 ht.2) (by decide))).trans hM1t
    refine z_aload_n C 33 0 dX2_add_32 rfl rfl ?_
    refine z_dup C 34 dX2_add_33 rfl rfl ?_
    refine x_tgetA (v := .int (iI (((Lf (t)).length : Int)))) C hκ 37 5 hM2t hs (by omega) (by omega) (by decide) rfl rfl rfl q196 (Or.inl rfl) rfl dX2_add_34 rfl ?_
    refine z_iconst C 38 dX2_add_37 rfl ?_
    refine z_iadd C 39 dX2_add_38 rfl ?_
    refine x_tputA (w := w) (fs' := xTyG σ w (t) ((((Lf (t)).length : Int)) + (1))) C hκ 42 5 hM2t xTyG_len hs (by omega) (by omega) (by decide) rfl rfl rfl rfl rfl rfl q196 (Or.inl rfl) rfl rfl rfl xTyG_5 dX2_add_39 rfl ?_
    obtain ⟨M3, eM3⟩ : ∃ z9 : zMap, zup M2 (σ 10 (t)) (.inr (xci w (t), xTyG σ w (t) ((((Lf (t)).length : Int)) + (1))) : va_E) = z9 := ⟨_, rfl⟩
    rw [eM3]
    have o4 : M3 (σ 10 (t)) = some (.inr (xci w (t), xTyG σ w (t) ((((Lf (t)).length : Int)) + (1)))) := eM3 ▸ zup_s
    have hfin : xLs θ σ w N (lUp Lf t (adL (Lf t) x)) none (zP θ M3 N) := by
      unfold adL; rw [if_neg hin9]
      refine ⟨rfl, M3, rfl, xM_list hX ht hno ?_ ⟨va_up ab9 (((Lf t).length : Int).toNat) (some (σ 10 x)), ?_, ?_⟩ ⟨upd f (x.toNat) (iI 1), ?_, ?_⟩ ?_⟩
      · rw [← eM3]; refine (zup_s).trans ?_; rw [List.length_append]; rfl
      · rw [← eM3, ← eM2]; exact (zup_n (hX.ne (lvT (Or.inr (Or.inr (Or.inl rfl))) ht.1 ht.2) (lvT (Or.inl rfl) ht.1 ht.2) (by decide))).trans zup_s
      · intro j a hj; exact up_at hab2 hj
      · rw [← eM3, ← eM2, ← eM1]; exact (zup_n (hX.ne (lvT (Or.inr (Or.inr (Or.inr rfl))) ht.1 ht.2) (lvT (Or.inl rfl) ht.1 ht.2) (by decide))).trans ((zup_n (hX.ne (lvT (Or.inr (Or.inr (Or.inr rfl))) ht.1 ht.2) (lvT (Or.inr (Or.inr (Or.inl rfl))) ht.1 ht.2) (by decide))).trans zup_s)
      · intro j hj; exact hs_at hf2 hx.1 j hj
      · intro b e g h1 h2 h3; rw [← eM3, ← eM2, ← eM1]; exact (zup_n h1).trans ((zup_n h2).trans ((zup_n h3).trans g))
    exact z_vret C dX2_add_42 (Nat.le_of_ble_eq_true rfl) (Nat.le_of_ble_eq_true rfl) hfin
section XV
variable {κ : zK} {own nm : String} {cc : ByteArray} {nL : Nat} {ret : Option FieldType} {rm : Room} {P : Option Value → (Heap → Prop) → Prop} {n k pc : Nat} {lv : List (Nat × Value)} {st rest : List Value}
variable {θ : zTh} {l : Launch} {σ : xA} {w : mW} {Lf : Int → List Int} {M N : zMap} {index : Nat}
theorem xr_add {rm' : Room} {As : List Value} {P' : Option Value → (Heap → Prop) → Prop} {fs : List Value} (C : ZC κ own nm cc nL ret rm P) (hκ : κ.1 = θ) (hκl : κ.2.2.1 = l) (hs : xS w) (t : Int) (ht : 0 ≤ t ∧ t < w 0 0) (hMt : M (σ 10 t) = some (.inr (xci w t, fs))) (q : Nat) (hM : ZM θ l yX2_add cX2_add 2 none rm' (.ref (σ 10 t) :: As) (zP θ M N) P') (d : decode cc pc = .ok (.invokevirtual index, 3)) (hl : Cond.methodLink own index yX2_add ∈ lw_all) (hd : zNd yX2_add RX2 As.length) (hf : rm'.frames + 1 ≤ rm.frames) (hlo : 8 + (2 + 11) + rm'.locals ≤ rm.locals) (hce : n + rm'.cells ≤ rm.cells) (hsl : k + rm'.slots ≤ rm.slots) (hst : st = As.reverse ++ .ref (σ 10 t) :: rest) (hsz : (rest.map fun v => v.category).sum ≤ 8) (hq : pc + 3 = q) (kk : ∀ (v : Option Value) (Pic1 : Heap → Prop), P' v Pic1 → Z κ Pic1 (n + rm'.cells) (k + rm'.slots) q lv (v.toList ++ rest)) : Z κ (zP θ M N) n k pc lv st := by
  rcases hs.cls ht.1 ht.2 with ⟨-, h, -⟩ | ⟨-, -, h⟩ | ⟨-, -, h⟩ | ⟨-, -, h⟩ <;> rw [h] at hMt
  · exact z_callU (owner := RX2) C hκ hκl q hM d hl q285 q288 q284 q92 q290 rfl hd hf hlo hce hsl (zrec_P hMt) rfl hst hsz hq kk
  · exact z_callU (owner := RX2) C hκ hκl q hM d hl q285 q286 q284 q92 q290 rfl hd hf hlo hce hsl (zrec_P hMt) rfl hst hsz hq kk
  · exact z_callU (owner := RX2) C hκ hκl q hM d hl q285 q287 q284 q92 q290 rfl hd hf hlo hce hsl (zrec_P hMt) rfl hst hsz hq kk
  · exact z_callU (owner := RX2) C hκ hκl q hM d hl q285 q289 q284 q92 q290 rfl hd hf hlo hce hsl (zrec_P hMt) rfl hst hsz hq kk
end XV
section XV
variable {κ : zK} {own nm : String} {cc : ByteArray} {nL : Nat} {ret : Option FieldType} {rm : Room} {P : Option Value → (Heap → Prop) → Prop} {n k pc : Nat} {lv : List (Nat × Value)} {st rest : List Value}
variable {θ : zTh} {l : Launch} {σ : xA} {w : mW} {Lf : Int → List Int} {M N : zMap} {index : Nat}
theorem xr_clear {rm' : Room} {As : List Value} {P' : Option Value → (Heap → Prop) → Prop} {fs : List Value} (C : ZC κ own nm cc nL ret rm P) (hκ : κ.1 = θ) (hκl : κ.2.2.1 = l) (hs : xS w) (t : Int) (ht : 0 ≤ t ∧ t < w 0 0) (hMt : M (σ 10 t) = some (.inr (xci w t, fs))) (q : Nat) (hM : ZM θ l yX2_clear cX2_clear 2 none rm' (.ref (σ 10 t) :: As) (zP θ M N) P') (d : decode cc pc = .ok (.invokevirtual index, 3)) (hl : Cond.methodLink own index yX2_clear ∈ lw_all) (hd : zNd yX2_clear RX2 As.length) (hf : rm'.frames + 1 ≤ rm.frames) (hlo : 8 + (2 + 11) + rm'.locals ≤ rm.locals) (hce : n + rm'.cells ≤ rm.cells) (hsl : k + rm'.slots ≤ rm.slots) (hst : st = As.reverse ++ .ref (σ 10 t) :: rest) (hsz : (rest.map fun v => v.category).sum ≤ 8) (hq : pc + 3 = q) (kk : ∀ (v : Option Value) (Pic1 : Heap → Prop), P' v Pic1 → Z κ Pic1 (n + rm'.cells) (k + rm'.slots) q lv (v.toList ++ rest)) : Z κ (zP θ M N) n k pc lv st := by
  rcases hs.cls ht.1 ht.2 with ⟨-, h, -⟩ | ⟨-, -, h⟩ | ⟨-, -, h⟩ | ⟨-, -, h⟩ <;> rw [h] at hMt
  · exact z_callU (owner := RX2) C hκ hκl q hM d hl q277 q280 q276 q92 q282 rfl hd hf hlo hce hsl (zrec_P hMt) rfl hst hsz hq kk
  · exact z_callU (owner := RX2) C hκ hκl q hM d hl q277 q278 q276 q92 q282 rfl hd hf hlo hce hsl (zrec_P hMt) rfl hst hsz hq kk
  · exact z_callU (owner := RX2) C hκ hκl q hM d hl q277 q279 q276 q92 q282 rfl hd hf hlo hce hsl (zrec_P hMt) rfl hst hsz hq kk
  · exact z_callU (owner := RX2) C hκ hκl q hM d hl q277 q281 q276 q92 q282 rfl hd hf hlo hce hsl (zrec_P hMt) rfl hst hsz hq kk
end XV
set_option maxRecDepth 100000 in
theorem k2_addAll {l : Launch} {θ : zTh} {σ : xA} {w : mW} {Lf : Int → List Int} {M N : zMap} (hX : xM θ σ w (Lf) M) (hs : xS w) (hw : mWF w) (hT : zTb θ) (t : Int) (x : Int) (bu : Int)  (ht : 0 ≤ t ∧ t < w 0 0) (hno : ∀ x : Int, 0 ≤ x → x < w 27 0 → w 28 x ≠ t) (hx : 0 ≤ x ∧ x < w 0 0) (hxt : x ≠ t) (hbu : bu = -1 ∨ bu = 8) (hrg : rgL (w 0 0) (Lf t)) (hrx : rgL (w 0 0) (Lf x)) : ZM θ l yX2_addAll cX2_addAll 4 none ⟨1, 0, 0, 21⟩ [.ref (σ 10 (t)), .ref (σ 10 (x)), va_rf (xo σ 10 (bu))] (zP θ M N) (xLs θ σ w N (lUp Lf t (adA (Lf t) (decide (bu = -1)) (Lf x)))) := by
  refine z_start (own := RX2) (nm := "addAll") pnX2 rfl rfl (by cases (xo σ 10 (bu)) <;> exact Nat.le_of_ble_eq_true rfl) ?_
  intro κ hκ hκl C
  refine z_as (lv' := [(0, .ref (σ 10 (t))), (1, .ref (σ 10 (x))), (2, va_rf (xo σ 10 (bu)))]) rfl (by cases (xo σ 10 (bu)) <;> rfl) rfl ?_
  change Z κ (zP θ M N) 0 0 0 [(0, .ref (σ 10 (t))), (1, .ref (σ 10 (x))), (2, va_rf (xo σ 10 (bu)))] []
  have hS := hs.S
  have hB := hS.B
  obtain ⟨hB1, hB2, hB3, hB4, hB5, hB6⟩ := hS.B
  have hC := hS.C
  obtain ⟨h81, h82⟩ := hs.r8
  have hlx := rgL_le hrx (by omega)
  refine z_iconst C 1 dX2_addAll_0 rfl ?_
  refine z_istore_n (lv' := [(0, .ref (σ 10 (t))), (1, .ref (σ 10 (x))), (2, va_rf (xo σ 10 (bu))), (3, .int (iI (0)))]) C 2 [1, 2, 3, 0] dX2_addAll_1 (by decide) (by cases (xo σ 10 (bu)) <;> rfl) rfl ?_
  have L2_1 : ∀ (fu : Nat) (k : Nat) (M9 : zMap) (hk : k ≤ (Lf x).length) (hX9 : xM θ σ w (lUp Lf (t) (adA (Lf t) (decide (bu = -1)) ((Lf x).take (k)))) M9) (hme : (Lf x).length - k < fu), Z κ (zP θ M9 N) 0 0 2 [(0, .ref (σ 10 (t))), (1, .ref (σ 10 (x))), (2, va_rf (xo σ 10 (bu))), (3, .int (iI ((k : Int))))] [] := by
    intro fu
    induction fu with
    | zero => intro k M9 hk hX9 hme; exact absurd hme (Nat.not_lt_zero _)
    | succ fu ih2 =>
      intro k M9 hk hX9 hme
      have hl9 : (lUp Lf (t) (adA (Lf t) (decide (bu = -1)) ((Lf x).take (k)))) (x) = Lf x := lUp_n hxt
      have hlen9 : (((lUp Lf (t) (adA (Lf t) (decide (bu = -1)) ((Lf x).take (k)))) (x)).length : Int) = ((Lf x).length : Int) := by rw [hl9]
      have hrg9 : rgL (w 0 0) ((lUp Lf (t) (adA (Lf t) (decide (bu = -1)) ((Lf x).take (k)))) (t)) := by rw [lUp_s]; exact adA_rg (fun z hz => hrx.2 z (List.mem_of_mem_take hz)) hrg
      refine z_iload_n C 3 3 dX2_addAll_2 rfl rfl ?_
      refine z_aload_n C 4 1 dX2_addAll_3 rfl rfl ?_
      obtain ⟨f3a, f3b, f3c, f3d, f3e, f3f, f3g, f3h⟩ := hS.T (show 0 ≤ x by omega) (by omega)
      obtain ⟨f3i, f3j, f3k, f3l⟩ := hs.ty (show 0 ≤ x by omega) (by omega)
      refine x_tget (v := .int (iI ((((lUp Lf (t) (adA (Lf t) (decide (bu = -1)) ((Lf x).take (k)))) (x)).length : Int)))) C hκ 7 5 hX9 hs (by omega) (by omega) (by decide) rfl rfl rfl q196 (Or.inl rfl) rfl dX2_addAll_4 rfl ?_
      refine z_icmp_ge C 36 10 dX2_addAll_7 (by decide) ⟨by omega, by omega⟩ ⟨by omega, by omega⟩ rfl (fun c4 => ?_) (fun c4 => ?_)
      · skip
        exact z_vret C dX2_addAll_36 (Nat.le_of_ble_eq_true rfl) (Nat.le_of_ble_eq_true rfl) (by have hk9 : (Lf x).take k = Lf x := List.take_of_length_le (by omega); rw [hk9] at hX9; exact ⟨rfl, M9, rfl, hX9⟩)
      · skip
        obtain ⟨a9, ha9⟩ : ∃ a, (Lf x)[k]? = some a := ⟨_, List.getElem?_eq_getElem (by omega)⟩
        have ha8 : ((lUp Lf (t) (adA (Lf t) (decide (bu = -1)) ((Lf x).take (k)))) (x))[((k : Nat) : Int).toNat]? = some a9 := by rw [hl9, Int.toNat_natCast]; exact ha9
        have hra : 0 ≤ a9 ∧ a9 < w 0 0 := hrx.2 a9 (List.mem_of_getElem? ha9)
        have hstep : adA (Lf t) (decide (bu = -1)) ((Lf x).take (k + 1)) = if (decide (bu = -1) || decide (a9 ≠ 8)) = true then adL (adA (Lf t) (decide (bu = -1)) ((Lf x).take (k))) a9 else adA (Lf t) (decide (bu = -1)) ((Lf x).take (k)) := by rw [List.take_succ, ha9]; exact adA_snoc
        refine z_aload_n C 11 1 dX2_addAll_10 rfl rfl ?_
        refine x_tget (v := .ref (σ 12 (x))) C hκ 14 4 hX9 hs (by omega) (by omega) (by decide) rfl rfl rfl q193 (Or.inl rfl) rfl dX2_addAll_11 rfl ?_
        refine z_iload_n C 15 3 dX2_addAll_14 rfl rfl ?_
        refine x_aab (a := a9) C hκ 16 hX9 (by omega) (by omega) (by omega) (by omega) ha8 dX2_addAll_15 rfl ?_
        refine z_aload_nq C 17 2 dX2_addAll_16 rfl rfl ?_
        have c5i := xo_T hX9 (a := a9) (b := bu) (by omega) (by omega) (by omega) (by omega)
        refine z_acmp_eq C (xo σ 10 (a9)) (xo σ 10 (bu)) 30 20 dX2_addAll_17 (by decide) rfl (by rw [xo_y (by omega)]; rfl) rfl (fun c5 => ?_) (fun c5 => ?_)
        · skip
          have c5b : a9 = bu := c5i.mp c5; clear c5i
          refine z_iinc (lv' := [(0, .ref (σ 10 (t))), (1, .ref (σ 10 (x))), (2, va_rf (xo σ 10 (bu))), (3, .int (iI (((k : Int)) + 1)))]) C 33 3 [1, 2, 3, 0] dX2_addAll_30 rfl (by decide) (by cases (xo σ 10 (bu)) <;> rfl) rfl ?_
          refine z_goto C 2 dX2_addAll_33 (by decide) ?_
          refine z_as (lv' := [(0, .ref (σ 10 (t))), (1, .ref (σ 10 (x))), (2, va_rf (xo σ 10 (bu))), (3, .int (iI (((k + 1) : Int))))]) rfl rfl rfl ?_
          exact ih2 (k + 1) (M9) (by omega) (by rw [hstep, if_neg (by simp; omega)]; exact hX9) (by omega)
        · skip
          have c5b : ¬ (a9 = bu) := fun h9 => c5 (c5i.mpr h9); clear c5i
          refine z_aload_n C 21 0 dX2_addAll_20 rfl rfl ?_
          refine z_aload_n C 22 1 dX2_addAll_21 rfl rfl ?_
          refine x_tget (v := .ref (σ 12 (x))) C hκ 25 4 hX9 hs (by omega) (by omega) (by decide) rfl rfl rfl q193 (Or.inl rfl) rfl dX2_addAll_22 rfl ?_
          refine z_iload_n C 26 3 dX2_addAll_25 rfl rfl ?_
          refine x_aab (a := a9) C hκ 27 hX9 (by omega) (by omega) (by omega) (by omega) ha8 dX2_addAll_26 rfl ?_
          refine xr_add (rest := []) (As := [.ref (σ 10 (a9))]) C hκ hκl hs (t) ⟨by omega, by omega⟩ (hX9.ty (by omega) (by omega)) 30 (k2_add hX9 hs hw hT (t) (a9) ⟨by omega, by omega⟩ hno ⟨by omega, by omega⟩ hrg9) dX2_addAll_27 q283 (zNd_of znX2_add) (Nat.le_of_ble_eq_true rfl) (Nat.le_of_ble_eq_true rfl) (Nat.le_of_ble_eq_true rfl) (Nat.le_of_ble_eq_true rfl) rfl (Nat.le_of_ble_eq_true rfl) rfl (fun v9 Q9 h9 => ?_)
          obtain ⟨rfl, Mr6, rfl, hXr6⟩ := h9
          rw [lUp_up, lUp_s] at hXr6
          refine z_as (Pic' := zP θ Mr6 N) (st' := []) rfl rfl rfl ?_
          refine z_iinc (lv' := [(0, .ref (σ 10 (t))), (1, .ref (σ 10 (x))), (2, va_rf (xo σ 10 (bu))), (3, .int (iI (((k : Int)) + 1)))]) C 33 3 [1, 2, 3, 0] dX2_addAll_30 rfl (by decide) (by cases (xo σ 10 (bu)) <;> rfl) rfl ?_
          refine z_goto C 2 dX2_addAll_33 (by decide) ?_
          refine z_as (lv' := [(0, .ref (σ 10 (t))), (1, .ref (σ 10 (x))), (2, va_rf (xo σ 10 (bu))), (3, .int (iI (((k + 1) : Int))))]) rfl rfl rfl ?_
          exact ih2 (k + 1) (Mr6) (by omega) (by rw [hstep, if_pos (by simp; omega)]; exact hXr6) (by omega)
  refine z_as (lv' := [(0, .ref (σ 10 (t))), (1, .ref (σ 10 (x))), (2, va_rf (xo σ 10 (bu))), (3, .int (iI (((0) : Int))))]) rfl rfl rfl ?_
  exact L2_1 _ (0) (M) (by omega) (by rw [List.take_zero, adA_none, lUp_id]; exact hX) (Nat.lt_succ_self _)
