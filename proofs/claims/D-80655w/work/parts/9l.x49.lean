/-! ===== copies ===== -/
/-- the numbers when k items of a are copied to b -/
def cxW (w : mW) (a i b j : Int) (k : Nat) : mW := fun q p => if q = 31 then (if 20 * b + j ≤ p ∧ p < 20 * b + j + k then w 31 (20 * a + i + (p - (20 * b + j))) else w 31 p) else w q p
theorem cxW_0 {w : mW} {a i b j : Int} : cxW w a i b j 0 = w := by
  funext q p
  unfold cxW
  by_cases e : q = 31
  · subst e; rw [if_pos rfl, if_neg (by omega)]
  · rw [if_neg e]
theorem cxW_k {w : mW} {a i b j : Int} {k q : Nat} {p : Int} (h : q ≠ 31) : cxW w a i b j k q p = w q p := if_neg h
theorem cxW_s {w : mW} {a i b j : Int} {k : Nat} : mset (cxW w a i b j k) 31 (20 * b + (j + k)) (w 31 (20 * a + i + k)) = cxW w a i b j (k + 1) := by
  funext q p
  by_cases e : q = 31
  · subst e
    by_cases e1 : p = 20 * b + (j + k)
    · subst e1
      rw [mset_s]
      unfold cxW
      rw [if_pos rfl, if_pos (by omega)]; congr 1; omega
    · rw [mset_i e1]
      unfold cxW
      rw [if_pos rfl, if_pos rfl]
      by_cases h : 20 * b + j ≤ p ∧ p < 20 * b + j + k
      · rw [if_pos h, if_pos (by omega)]
      · rw [if_neg h, if_neg (by omega)]
  · rw [mset_k e, cxW_k e, cxW_k e]
theorem sV_cx {w : mW} {a i b j : Int} {k : Nat} : sV w (cxW w a i b j k) := fun q p h => cxW_k (by omega)
theorem cx_cpy {w : mW} {a i b j : Int} {k : Nat} (hi : 0 ≤ i) (hj : 0 ≤ j) (q : Nat) : cxW w a i b j k 31 (20 * b + q) = va_cpy (fun q : Nat => w 31 (20 * a + q)) (fun q : Nat => w 31 (20 * b + q)) i.toNat j.toNat k q := by
  unfold cxW va_cpy
  rw [if_pos rfl]
  by_cases h : j.toNat ≤ q ∧ q < j.toNat + k
  · rw [if_pos (by omega), if_pos h]; congr 1; omega
  · rw [if_neg (by omega), if_neg h]
theorem cpy_at {α : Type} {f g : Nat → α} {h : Int → α} {va vb : Nat → Int} {la lb sp dp n : Nat} (hf : ∀ j, j < la → f j = h (va j)) (hg : ∀ j, j < lb → g j = h (vb j)) (hs : sp + n ≤ la) : ∀ j, j < lb → va_cpy f g sp dp n j = h (va_cpy va vb sp dp n j) := fun j hj => by
  unfold va_cpy
  by_cases e : dp ≤ j ∧ j < dp + n
  · rw [if_pos e, if_pos e]; exact hf _ (by omega)
  · rw [if_neg e, if_neg e]; exact hg _ hj
theorem cpy_in {α : Type} {f g : Nat → α} {sp dp n j : Nat} (h : dp ≤ j ∧ j < dp + n) : va_cpy f g sp dp n j = f (sp + (j - dp)) := if_pos h
def pT (t : Int) : FieldType := if t = 0 then .boolean else if t = 1 then .char else if t = 2 then .byte else if t = 3 then .short else if t = 4 then .int else if t = 5 then .long else if t = 6 then .float else .double
theorem pT_c {t : Int} (h0 : 0 ≤ t) (h8 : t < 8) : t = 0 ∨ t = 1 ∨ t = 2 ∨ t = 3 ∨ t = 4 ∨ t = 5 ∨ t = 6 ∨ t = 7 := by omega
theorem pT_r {t : Int} (h0 : 0 ≤ t) (h8 : t < 8) : refKind (pT t) = false := by rcases pT_c h0 h8 with rfl | rfl | rfl | rfl | rfl | rfl | rfl | rfl <;> rfl
theorem pT_ne {t u : Int} (h0 : 0 ≤ t) (h8 : t < 8) (k0 : 0 ≤ u) (k8 : u < 8) (h : t ≠ u) : (pT t != pT u) = true := by
  rcases pT_c h0 h8 with rfl | rfl | rfl | rfl | rfl | rfl | rfl | rfl <;> rcases pT_c k0 k8 with rfl | rfl | rfl | rfl | rfl | rfl | rfl | rfl <;> first | rfl | exact absurd rfl h
theorem pT_eq (t : Int) : (pT t != pT t) = false := by unfold pT; (repeat' split) <;> rfl
def xTE (w : mW) (t : Int) (ty : FieldType) : Prop := (t = 8 ∧ ty = .object "ReflectMirror$Thing") ∨ (9 ≤ t ∧ w 1 t = 4 ∧ ty = .object "ReflectMirror$Many") ∨ (9 ≤ t ∧ w 1 t ≠ 4 ∧ ty = .object "ReflectMirror$One")
/-- the type of a row's items, as the class of rows has it -/
theorem xRow_ty {θ : zTh} {σ : xA} {w : mW} {t : Int} {ln : Nat} {v : Nat → Int} {e : va_E} (h : xRow θ σ w t ln v e) : ∃ (cA : ClassId) (x : vp_A) (t0 : Nat) (ty : FieldType), e = .inl (cA, x) ∧ (zTys θ)[t0]? = some (cA, ty) ∧ x.1 = ln ∧ 0 ≤ t ∧ ((t < 8 ∧ ty = pT t) ∨ (8 ≤ t ∧ refKind ty = true ∧ xTE w t ty)) := by
  rcases h with ⟨h1, h2, g, rfl, h3⟩ | ⟨rfl, g, rfl, h3⟩ | ⟨rfl, g, rfl, h3⟩ | ⟨rfl, g, rfl, h3⟩ | ⟨h1, g, rfl, h3⟩
  · rcases (show t = 0 ∨ t = 1 ∨ t = 2 ∨ t = 3 ∨ t = 4 by omega) with rfl | rfl | rfl | rfl | rfl
    · exact ⟨_, _, 0, _, rfl, rfl, rfl, by decide, Or.inl ⟨by decide, rfl⟩⟩
    · exact ⟨_, _, 1, _, rfl, rfl, rfl, by decide, Or.inl ⟨by decide, rfl⟩⟩
    · exact ⟨_, _, 2, _, rfl, rfl, rfl, by decide, Or.inl ⟨by decide, rfl⟩⟩
    · exact ⟨_, _, 3, _, rfl, rfl, rfl, by decide, Or.inl ⟨by decide, rfl⟩⟩
    · exact ⟨_, _, 4, _, rfl, rfl, rfl, by decide, Or.inl ⟨by decide, rfl⟩⟩
  · exact ⟨_, _, 5, _, rfl, rfl, rfl, by decide, Or.inl ⟨by decide, rfl⟩⟩
  · exact ⟨_, _, 6, _, rfl, rfl, rfl, by decide, Or.inl ⟨by decide, rfl⟩⟩
  · exact ⟨_, _, 7, _, rfl, rfl, rfl, by decide, Or.inl ⟨by decide, rfl⟩⟩
  · unfold xcA
    by_cases e8 : t = 8
    · rw [if_pos e8]; exact ⟨_, _, 10, _, rfl, rfl, rfl, by omega, Or.inr ⟨h1, rfl, Or.inl ⟨e8, rfl⟩⟩⟩
    · rw [if_neg e8]
      by_cases e4 : w 1 t = 4
      · rw [if_pos e4]; exact ⟨_, _, 13, _, rfl, rfl, rfl, by omega, Or.inr ⟨h1, rfl, Or.inr (Or.inl ⟨by omega, e4, rfl⟩)⟩⟩
      · rw [if_neg e4]; exact ⟨_, _, 12, _, rfl, rfl, rfl, by omega, Or.inr ⟨h1, rfl, Or.inr (Or.inr ⟨by omega, e4, rfl⟩)⟩⟩
theorem xMis_t {t u : Int} {a b : FieldType} {p q : Prop} (h : (t < 8 ∧ a = pT t) ∨ (8 ≤ t ∧ refKind a = true ∧ p)) (g : (u < 8 ∧ b = pT u) ∨ (8 ≤ u ∧ refKind b = true ∧ q)) (h0 : 0 ≤ t) (g0 : 0 ≤ u) (hm : t < 8 ∨ u < 8) (hn : t ≠ u) : ((refKind a != refKind b) || (!refKind a && a != b)) = true := by
  rcases h with ⟨h8, rfl⟩ | ⟨h8, h9, _⟩
  · rcases g with ⟨g8, rfl⟩ | ⟨g8, g9, _⟩
    · rw [pT_r h0 h8, pT_r g0 g8, pT_ne h0 h8 g0 g8 hn]; rfl
    · rw [pT_r h0 h8, g9]; rfl
  · rcases g with ⟨g8, rfl⟩ | ⟨g8, g9, _⟩
    · rw [h9, pT_r g0 g8]; rfl
    · omega
theorem xMis_f {t u : Int} {a b : FieldType} {p q : Prop} (h : (t < 8 ∧ a = pT t) ∨ (8 ≤ t ∧ refKind a = true ∧ p)) (g : (u < 8 ∧ b = pT u) ∨ (8 ≤ u ∧ refKind b = true ∧ q)) (h0 : 0 ≤ t) (hm : t = u ∨ (8 ≤ t ∧ 8 ≤ u)) : ((refKind a != refKind b) || (!refKind a && a != b)) = false := by
  rcases h with ⟨h8, rfl⟩ | ⟨h8, h9, _⟩
  · rcases g with ⟨g8, rfl⟩ | ⟨g8, g9, _⟩
    · have e : t = u := by omega
      subst e; rw [pT_eq]; simp
    · omega
  · rcases g with ⟨g8, rfl⟩ | ⟨g8, g9, _⟩
    · omega
    · rw [h9, g9]; rfl
/-- what a primitive's row holds fits its type -/
theorem fitI {w : mW} {t b : Int} (h0 : 0 ≤ t) (h4 : t ≤ 4) (hR : inR b) (h : ftB w t b = true) : fits (pT t) (.int (iI b)) = true := by
  rcases (show t = 0 ∨ t = 1 ∨ t = 2 ∨ t = 3 ∨ t = 4 by omega) with rfl | rfl | rfl | rfl | rfl
  · exact (narZ ((ft_ok (by decide) (inR_L hR) h).1 rfl)).2.1
  · exact (narC ((ft_rg h).1 rfl)).2
  · exact (narB ((ft_rg h).2.1 rfl)).2
  · exact (narS ((ft_rg h).2.2 rfl)).2
  · rfl
theorem xRow_q {θ : zTh} {σ : xA} {w : mW} {t : Int} {ln : Nat} {v : Nat → Int} {e : va_E} (h8 : 8 ≤ t) (h : xRow θ σ w t ln v e) : ∃ g : Nat → Option Nat, e = .inl (xcA θ w t, ln, xQ g) ∧ ∀ j, j < ln → g j = xo σ 30 (v j) := by
  rcases h with ⟨g1, g2, _⟩ | ⟨g1, _⟩ | ⟨g1, _⟩ | ⟨g1, _⟩ | ⟨g1, g2, g3, g4⟩ <;> first | (exfalso; omega) | exact ⟨g2, g3, g4⟩
section XCP
variable {κ : zK} {own nm : String} {cc : ByteArray} {nL : Nat} {ret : Option FieldType} {rm : Room} {P : Option Value → (Heap → Prop) → Prop} {n k pc : Nat} {lv : List (Nat × Value)} {st rest : List Value}
variable {θ : zTh} {l : Launch} {σ : xA} {w : mW} {Lf : Int → List Int} {M N : zMap} {a b la lb index : Nat} {ta tb i j c : Int} {va vb : Nat → Int} {ea eb : va_E}
/-- whether a row is one of things -/
theorem x_inTh (C : ZC κ own nm cc nL ret rm P) (hκ : κ.1 = θ) (hT : zTb θ) (q : Nat) (hM : M a = some ea) (hr : xRow θ σ w ta la va ea) (hcl : Cond.classLink own index "[LReflectMirror$Thing;" ∈ lw_all) (d : decode cc pc = .ok (.instanceof index, 3)) (hq : pc + 3 = q) (kk : Z κ (zP θ M N) n k q lv (.int (iI (bI (decide (8 ≤ ta)))) :: rest)) : Z κ (zP θ M N) n k pc lv (.ref a :: rest) := by
  have kf : ta < 8 → Z κ (zP θ M N) n k q lv (.int (iI (bI false)) :: rest) := fun h => by rw [show decide (8 ≤ ta) = false from decide_eq_false (by omega)] at kk; exact kk
  rcases hr with ⟨r1, r2, g, rfl, r3⟩ | ⟨rfl, g, rfl, r3⟩ | ⟨rfl, g, rfl, r3⟩ | ⟨rfl, g, rfl, r3⟩ | ⟨r1, g, rfl, r3⟩
  · rcases (show ta = 0 ∨ ta = 1 ∨ ta = 2 ∨ ta = 3 ∨ ta = 4 by omega) with rfl | rfl | rfl | rfl | rfl
    · exact z_instAN C hκ hT q 0 hM rfl rfl (by decide +kernel) hcl d hq (kf (by decide))
    · exact z_instAN C hκ hT q 1 hM rfl rfl (by decide +kernel) hcl d hq (kf (by decide))
    · exact z_instAN C hκ hT q 2 hM rfl rfl (by decide +kernel) hcl d hq (kf (by decide))
    · exact z_instAN C hκ hT q 3 hM rfl rfl (by decide +kernel) hcl d hq (kf (by decide))
    · exact z_instAN C hκ hT q 4 hM rfl rfl (by decide +kernel) hcl d hq (kf (by decide))
  · exact z_instAN C hκ hT q 5 hM rfl rfl (by decide +kernel) hcl d hq (kf (by decide))
  · exact z_instAN C hκ hT q 6 hM rfl rfl (by decide +kernel) hcl d hq (kf (by decide))
  · exact z_instAN C hκ hT q 7 hM rfl rfl (by decide +kernel) hcl d hq (kf (by decide))
  · rw [show decide (8 ≤ ta) = true from decide_eq_true r1] at kk
    have hx9 : xcA θ w ta = θ.2.1 10 ∨ xcA θ w ta = θ.2.1 13 ∨ xcA θ w ta = θ.2.1 12 := by unfold xcA; split; exact Or.inl rfl; split; exact Or.inr (Or.inl rfl); exact Or.inr (Or.inr rfl)
    rcases hx9 with hx9 | hx9 | hx9 <;> rw [hx9] at hM
    · exact z_instA C hκ q 10 hM rfl rfl hcl d hq kk
    · exact z_instAY C hκ q 13 hM rfl hT.2.2.2.1 hcl d hq kk
    · exact z_instAY C hκ q 12 hM rfl hT.2.2.1 hcl d hq kk
theorem x_caTh (C : ZC κ own nm cc nL ret rm P) (hκ : κ.1 = θ) (hT : zTb θ) (q : Nat) (hM : M a = some ea) (hr : xRow θ σ w ta la va ea) (h8 : 8 ≤ ta) (hcl : Cond.classLink own index "[LReflectMirror$Thing;" ∈ lw_all) (d : decode cc pc = .ok (.checkcast index, 3)) (hq : pc + 3 = q) (kk : Z κ (zP θ M N) n k q lv (.ref a :: rest)) : Z κ (zP θ M N) n k pc lv (.ref a :: rest) := by
  rcases hr with ⟨r1, r2, g, rfl, r3⟩ | ⟨rfl, g, rfl, r3⟩ | ⟨rfl, g, rfl, r3⟩ | ⟨rfl, g, rfl, r3⟩ | ⟨r1, g, rfl, r3⟩
  · omega
  · omega
  · omega
  · omega
  · have hx9 : xcA θ w ta = θ.2.1 10 ∨ xcA θ w ta = θ.2.1 13 ∨ xcA θ w ta = θ.2.1 12 := by unfold xcA; split; exact Or.inl rfl; split; exact Or.inr (Or.inl rfl); exact Or.inr (Or.inr rfl)
    rcases hx9 with hx9 | hx9 | hx9 <;> rw [hx9] at hM
    · exact z_castA C hκ q 10 hM rfl rfl hcl d hq kk
    · exact z_castAY C hκ q 13 hM rfl hT.2.2.2.1 hcl d hq kk
    · exact z_castAY C hκ q 12 hM rfl hT.2.2.1 hcl d hq kk
/-- the machine's own copy, from row to row -/
theorem x_cpy (C : ZC κ own nm cc nL ret rm P) (hκ : κ.1 = θ) (hκl : κ.2.2.1 = l) (hT : zTb θ) (hZ : zTx θ l) (hX : xM θ σ w Lf M) (hs : xS w) (q : Nat) (hMa : M a = some ea) (hra : xRow θ σ w ta la va ea) (hMb : M b = some eb) (hrb : xRow θ σ w tb lb vb eb) (hla : la ≤ 1000) (hlb : lb ≤ 1000) (htb : tb < w 0 0) (ri : inR i) (rj : inR j) (rc : inR c) (hel : ta < 8 → ∀ r : Nat, r < la → ftB w ta (va r) = true ∧ inL (va r)) (her : 8 ≤ ta → ∀ r : Nat, r < la → -1 ≤ va r ∧ va r < w 27 0) (heb : 9 ≤ tb → 8 ≤ ta → ∀ r : Nat, r < la → 0 ≤ va r → isa w (w 28 (va r)) tb = true) (hTh : ∀ x : Int, 0 ≤ x → x < w 27 0 → w 29 x = -1 → w 1 (w 28 x) ≠ 4) (hw0 : zNc1 arraycopyName own index) (d : decode cc pc = .ok (.invokestatic index, 3)) (hf : 9 ≤ rm.frames) (hlo : 10250 ≤ rm.locals) (hsz : (rest.map fun v => v.category).sum ≤ 8) (hce : n + 3 ≤ rm.cells) (hsl : k + 410 ≤ rm.slots) (hq : pc + 3 = q)
    (kk : ∀ e' : va_E, (ta = tb ∨ (8 ≤ ta ∧ 8 ≤ tb)) → 0 ≤ i → 0 ≤ j → 0 ≤ c → i + c ≤ (la : Int) → j + c ≤ (lb : Int) → xRow θ σ w tb lb (va_cpy va vb i.toNat j.toNat c.toNat) e' → Z κ (zP θ (zup M b e') N) n k q lv rest)
    (kx1 : (ta < 8 ∨ tb < 8) → ta ≠ tb → ∀ b : Nat, zX κ (zP θ M N) (n + 3) (k + 410) pc lv b "java/lang/ArrayStoreException")
    (kx2 : (ta = tb ∨ (8 ≤ ta ∧ 8 ≤ tb)) → (i < 0 ∨ j < 0 ∨ c < 0 ∨ (la : Int) < i + c ∨ (lb : Int) < j + c) → ∀ b : Nat, zX κ (zP θ M N) (n + 3) (k + 410) pc lv b "java/lang/ArrayIndexOutOfBoundsException") : Z κ (zP θ M N) n k pc lv (.int (iI c) :: .int (iI j) :: .ref b :: .int (iI i) :: .ref a :: rest) := by
  obtain ⟨cA, x, t0, ty, hea, hty, hx1, ha0, hta⟩ := xRow_ty hra
  obtain ⟨cB, z, t1, ty1, heb', hty1, hz1, hb0, htb'⟩ := xRow_ty hrb
  rw [hea] at hMa
  rw [heb'] at hMb
  by_cases hm : (ta < 8 ∨ tb < 8) ∧ ta ≠ tb
  · exact zn_cpMis C hκ hκl hT hZ hMa hty hMb hty1 (by omega) (by omega) (xMis_t hta htb' ha0 hb0 hm.1 hm.2) hw0 d hf hlo hsz hce hsl (kx1 hm.1 hm.2)
  · have hk : ta = tb ∨ (8 ≤ ta ∧ 8 ≤ tb) := by omega
    by_cases ho : i < 0 ∨ j < 0 ∨ c < 0 ∨ (la : Int) < i + c ∨ (lb : Int) < j + c
    · exact zn_cpOut C hκ hκl hT hZ hMa hty hMb hty1 (by omega) (by omega) (xMis_f hta htb' ha0 hk) ri rj rc (by rw [hx1, hz1]; exact ho) hw0 d hf hlo hsz hce hsl (kx2 hk ho)
    · have h1 : 0 ≤ i := by omega
      have h2 : 0 ≤ j := by omega
      have h3 : 0 ≤ c := by omega
      have h4 : i + c ≤ (la : Int) := by omega
      have h5 : j + c ≤ (lb : Int) := by omega
      have hi9 : i.toNat + c.toNat ≤ la := by omega
      have hr9 : ∀ r : Nat, (r : Int) < c → i.toNat + r < la := fun r hr => by omega
      have kk' := fun e' => kk e' hk h1 h2 h3 h4 h5
      have K : zss x z → (∀ r : Nat, (r : Int) < c → fits ty1 (zvl x (i.toNat + r)) = true ∧ ∀ o : Nat, zvl x (i.toNat + r) = .ref o → ∃ (ci N9 : Nat) (Cn : String) (T9 : u_T) (fs : List Value) (E : String), ty1 = .object E ∧ M o = some (.inr (ci, fs)) ∧ zCl[ci]? = some (Cn, T9, N9) ∧ (Cn = E ∨ Cond.castable Cn E ∈ lw_tbl)) → xRow θ σ w tb lb (va_cpy va vb i.toNat j.toNat c.toNat) (.inl (cB, zcp x z i.toNat j.toNat c.toNat)) → Z κ (zP θ M N) n k pc lv (.int (iI c) :: .int (iI j) :: .ref b :: .int (iI i) :: .ref a :: rest) := fun g1 g2 g3 =>
        zn_cpOk C hκ hκl hT q hMa hty hMb hty1 (by omega) (by omega) (xMis_f hta htb' ha0 hk) g1 h1 h2 h3 (by rw [hx1]; exact h4) (by rw [hz1]; exact h5) g2 hw0 d (by omega) (by omega) hsz hq (kk' _ g3)
      clear kk kk' kx1 kx2
      rcases hra with ⟨r1, r2, g, rfl, r3⟩ | ⟨rfl, g, rfl, r3⟩ | ⟨rfl, g, rfl, r3⟩ | ⟨rfl, g, rfl, r3⟩ | ⟨r1, g, rfl, r3⟩
      · rcases hrb with ⟨s1, s2, g2, rfl, s3⟩ | ⟨rfl, g2, rfl, s3⟩ | ⟨rfl, g2, rfl, s3⟩ | ⟨rfl, g2, rfl, s3⟩ | ⟨s1, g2, rfl, s3⟩ <;> first | omega | skip
        have e : ta = tb := by omega
        subst e
        obtain ⟨rfl, rfl⟩ := Prod.mk.inj (Sum.inl.inj hea)
        obtain ⟨rfl, rfl⟩ := Prod.mk.inj (Sum.inl.inj heb')
        have ey : ty1 = pT ta := by rcases htb' with ⟨_, h⟩ | ⟨h, _, _⟩; exact h; omega
        refine K trivial (fun r hr => ⟨?_, fun o ho9 => by cases ho9⟩) (Or.inl ⟨s1, s2, _, rfl, cpy_at r3 s3 hi9⟩)
        show fits ty1 (.int (g (i.toNat + r))) = true
        have he9 := hel (by omega) (i.toNat + r) (hr9 r hr)
        rw [r3 _ (hr9 r hr), ey]
        exact fitI r1 r2 ((ft_ok r1 he9.2 he9.1).2.1 r1 r2) he9.1
      · rcases hrb with ⟨s1, s2, g2, rfl, s3⟩ | ⟨s1, g2, rfl, s3⟩ | ⟨s1, g2, rfl, s3⟩ | ⟨s1, g2, rfl, s3⟩ | ⟨s1, g2, rfl, s3⟩ <;> first | omega | skip
        obtain ⟨rfl, rfl⟩ := Prod.mk.inj (Sum.inl.inj hea)
        obtain ⟨rfl, rfl⟩ := Prod.mk.inj (Sum.inl.inj heb')
        have ey : ty1 = .long := by rcases htb' with ⟨_, h⟩ | ⟨h, _, _⟩; (rw [s1] at h; exact h); omega
        subst ey
        exact K trivial (fun r hr => ⟨rfl, fun o ho9 => by cases ho9⟩) (Or.inr (Or.inl ⟨s1, _, rfl, cpy_at r3 s3 hi9⟩))
      · rcases hrb with ⟨s1, s2, g2, rfl, s3⟩ | ⟨s1, g2, rfl, s3⟩ | ⟨s1, g2, rfl, s3⟩ | ⟨s1, g2, rfl, s3⟩ | ⟨s1, g2, rfl, s3⟩ <;> first | omega | skip
        obtain ⟨rfl, rfl⟩ := Prod.mk.inj (Sum.inl.inj hea)
        obtain ⟨rfl, rfl⟩ := Prod.mk.inj (Sum.inl.inj heb')
        have ey : ty1 = .float := by rcases htb' with ⟨_, h⟩ | ⟨h, _, _⟩; (rw [s1] at h; exact h); omega
        subst ey
        exact K trivial (fun r hr => ⟨rfl, fun o ho9 => by cases ho9⟩) (Or.inr (Or.inr (Or.inl ⟨s1, _, rfl, cpy_at r3 s3 hi9⟩)))
      · rcases hrb with ⟨s1, s2, g2, rfl, s3⟩ | ⟨s1, g2, rfl, s3⟩ | ⟨s1, g2, rfl, s3⟩ | ⟨s1, g2, rfl, s3⟩ | ⟨s1, g2, rfl, s3⟩ <;> first | omega | skip
        obtain ⟨rfl, rfl⟩ := Prod.mk.inj (Sum.inl.inj hea)
        obtain ⟨rfl, rfl⟩ := Prod.mk.inj (Sum.inl.inj heb')
        have ey : ty1 = .double := by rcases htb' with ⟨_, h⟩ | ⟨h, _, _⟩; (rw [s1] at h; exact h); omega
        subst ey
        exact K trivial (fun r hr => ⟨rfl, fun o ho9 => by cases ho9⟩) (Or.inr (Or.inr (Or.inr (Or.inl ⟨s1, _, rfl, cpy_at r3 s3 hi9⟩))))
      · rcases hrb with ⟨s1, s2, g2, rfl, s3⟩ | ⟨s1, g2, rfl, s3⟩ | ⟨s1, g2, rfl, s3⟩ | ⟨s1, g2, rfl, s3⟩ | ⟨s1, g2, rfl, s3⟩ <;> first | omega | skip
        obtain ⟨rfl, rfl⟩ := Prod.mk.inj (Sum.inl.inj hea)
        obtain ⟨rfl, rfl⟩ := Prod.mk.inj (Sum.inl.inj heb')
        have hE : ∃ E : String, ty1 = .object E ∧ ((tb = 8 ∧ E = "ReflectMirror$Thing") ∨ (9 ≤ tb ∧ w 1 tb = 4 ∧ E = "ReflectMirror$Many") ∨ (9 ≤ tb ∧ w 1 tb ≠ 4 ∧ E = "ReflectMirror$One")) := by
          rcases htb' with ⟨h, _⟩ | ⟨_, _, h⟩
          · omega
          · rcases h with ⟨h1, h2⟩ | ⟨h1, h3, h2⟩ | ⟨h1, h3, h2⟩
            · exact ⟨_, h2, Or.inl ⟨h1, rfl⟩⟩
            · exact ⟨_, h2, Or.inr (Or.inl ⟨h1, h3, rfl⟩)⟩
            · exact ⟨_, h2, Or.inr (Or.inr ⟨h1, h3, rfl⟩)⟩
        obtain ⟨E, rfl, hE⟩ := hE
        refine K trivial (fun r hr => ?_) (Or.inr (Or.inr (Or.inr (Or.inr ⟨s1, _, rfl, cpy_at r3 s3 hi9⟩))))
        have h7 := hr9 r hr
        have h8 := her r1 _ h7
        show fits (.object E) (va_rf (g (i.toNat + r))) = true ∧ ∀ o : Nat, va_rf (g (i.toNat + r)) = .ref o → _
        rw [r3 _ h7]
        by_cases hz0 : va (i.toNat + r) < 0
        · rw [xo_n hz0]; exact ⟨rfl, fun o ho9 => by cases ho9⟩
        · rw [xo_y (by omega)]
          refine ⟨rfl, fun o ho9 => ?_⟩
          cases ho9
          have hvi := heb
          by_cases h29 : w 29 (va (i.toNat + r)) = -1
          · have hv := hX.one (by omega) h8.2 h29
            refine ⟨24, _, _, _, _, E, rfl, hv, rfl, ?_⟩
            rcases hE with ⟨_, rfl⟩ | ⟨g9, g4, rfl⟩ | ⟨g9, g4, rfl⟩
            · exact Or.inr q2588
            · exact absurd ((go_cls hs (by omega) h8.2 g9 htb (heb g9 r1 _ h7 (by omega))).1 g4) (hTh _ (by omega) h8.2 h29)
            · exact Or.inl rfl
          · have hv := hX.many (by omega) h8.2 h29
            refine ⟨27, _, _, _, _, E, rfl, hv, rfl, ?_⟩
            rcases hE with ⟨_, rfl⟩ | ⟨g9, g4, rfl⟩ | ⟨g9, g4, rfl⟩
            · exact Or.inr q2589
            · exact Or.inl rfl
            · exact absurd ((go_cls hs (by omega) h8.2 g9 htb (heb g9 r1 _ h7 (by omega))).2 g4) h29
end XCP

theorem zc_arraycopy : zNc1 arraycopyName "ReflectMirror" 269 := ⟨q1691, q1693, q1692, q135⟩
section XVC
variable {θ : zTh} {σ : xA} {w : mW} {M : zMap}
theorem xM.cx (hX : xM θ σ w (xL w) M) (hs : xS w) {a i b j : Int} {k : Nat} {e' : va_E} (hb : 0 ≤ b ∧ b < w 27 0) (h29 : w 29 b ≠ -1) (hj : 0 ≤ j ∧ j + k ≤ w 29 b) (he : xRow θ σ w (w 4 (w 28 b)) (w 29 b).toNat (fun q : Nat => cxW w a i b j k 31 (20 * b + q)) e') : xM θ σ (cxW w a i b j k) (xL (cxW w a i b j k)) (zup M (σ 32 b) e') := by
  have hl0 : xLv w (xL w) 32 b := Or.inr (Or.inr (Or.inr (Or.inr (Or.inr (Or.inr (Or.inr (Or.inl ⟨rfl, hb.1, hb.2, h29⟩)))))))
  rw [xL_V sV_cx]
  refine ⟨fun a9 q b9 q' h1 h2 => hX.1 a9 q b9 q' h1 h2, fun a9 q h => ?_⟩
  have hl : xLv w (xL w) a9 q := h
  by_cases h0 : a9 = 32 ∧ q = b
  · obtain ⟨rfl, rfl⟩ := h0
    refine ⟨_, zup_s, ?_⟩
    exact (xRow_eq (w1 := cxW w a i q j k) (σ' := σ) rfl (fun _ _ => rfl) (fun _ _ _ _ => rfl) he : xRow θ σ (cxW w a i q j k) _ _ (fun q9 : Nat => cxW w a i q j k 31 (20 * q + q9)) _)
  · obtain ⟨e, g1, g2⟩ := hX.2 a9 q hl
    refine ⟨e, (zup_n (fun e9 => h0 (hX.1 a9 q 32 b hl hl0 e9))).trans g1, ?_⟩
    by_cases h32 : a9 = 32
    · subst h32
      have hb9 := (hs.2.1.X hb.1 hb.2).2.1
      have hjx : q ≠ b := fun e => h0 ⟨rfl, e⟩
      have hb2 : w 29 q ≤ 20 := by
        have hj : 0 ≤ q ∧ q < w 27 0 := by unfold xLv at hl; omega
        exact (hs.2.1.X hj.1 hj.2).2.1.2
      refine (xRow_eq (w1 := cxW w a i b j k) (σ' := σ) rfl (fun j9 h9 => ?_) (fun _ _ _ _ => rfl) g2 : xRow θ σ (cxW w a i b j k) _ _ (fun j9 : Nat => cxW w a i b j k 31 (20 * q + j9)) _)
      unfold cxW
      rw [if_pos rfl, if_neg (by omega)]
    · rcases xLv_k hl with rfl | rfl | rfl | rfl | rfl | rfl | rfl | rfl | rfl | rfl | rfl | rfl | rfl | rfl | rfl | rfl | rfl | rfl | rfl | rfl <;> first | exact g2 | (exfalso; omega)
end XVC
/-- what a copy answers (0: it goes), and how many items come over -/
def cpC (w : mW) (a i b j n : Int) : Int × Nat := if cpE w a i b j n ≠ 0 then (-10 - cpE w a i b j n, 0) else if cpK w a i b n < n.toNat then (4, cpK w a i b n) else (0, n.toNat)
theorem cpC_E {w : mW} {a i b j n c : Int} (h : cpE w a i b j n = -10 - c) (hc : c ≠ -10) : cpC w a i b j n = (c, 0) := by
  unfold cpC
  rw [if_pos (by omega), h]
  congr 1; omega
theorem cpE_1 {w : mW} {a i b j n : Int} (h : a = -1 ∨ b = -1) : cpE w a i b j n = -10 - 1 := if_pos h
theorem cpE_4 {w : mW} {a i b j n : Int} (h1 : ¬ (a = -1 ∨ b = -1)) (h : w 29 a = -1 ∨ w 29 b = -1) : cpE w a i b j n = -10 - 4 := (if_neg h1).trans (if_pos h)
theorem cpE_5 {w : mW} {a i b j n : Int} (h1 : ¬ (a = -1 ∨ b = -1)) (h2 : ¬ (w 29 a = -1 ∨ w 29 b = -1)) (h : (w 4 (w 28 a) < 8 ∨ w 4 (w 28 b) < 8) ∧ w 4 (w 28 a) ≠ w 4 (w 28 b)) : cpE w a i b j n = -10 - 4 := (if_neg h1).trans ((if_neg h2).trans (if_pos h))
theorem cpE_3 {w : mW} {a i b j n : Int} (h1 : ¬ (a = -1 ∨ b = -1)) (h2 : ¬ (w 29 a = -1 ∨ w 29 b = -1)) (h3 : ¬ ((w 4 (w 28 a) < 8 ∨ w 4 (w 28 b) < 8) ∧ w 4 (w 28 a) ≠ w 4 (w 28 b))) (h : i < 0 ∨ j < 0 ∨ n < 0 ∨ w 29 a < i + n ∨ w 29 b < j + n) : cpE w a i b j n = -10 - 3 := (if_neg h1).trans ((if_neg h2).trans ((if_neg h3).trans (if_pos h)))
theorem cpE_0 {w : mW} {a i b j n : Int} (h1 : ¬ (a = -1 ∨ b = -1)) (h2 : ¬ (w 29 a = -1 ∨ w 29 b = -1)) (h3 : ¬ ((w 4 (w 28 a) < 8 ∨ w 4 (w 28 b) < 8) ∧ w 4 (w 28 a) ≠ w 4 (w 28 b))) (h : ¬ (i < 0 ∨ j < 0 ∨ n < 0 ∨ w 29 a < i + n ∨ w 29 b < j + n)) : cpE w a i b j n = 0 := (if_neg h1).trans ((if_neg h2).trans ((if_neg h3).trans (if_neg h)))
theorem cpC_n {w : mW} {a i b j n : Int} (h : cpE w a i b j n = 0) (hp : ∀ k : Nat, k < n.toNat → cpP w a i b k = false) : cpC w a i b j n = (0, n.toNat) := by
  unfold cpC
  rw [if_neg (by omega), if_neg (by unfold cpK; rw [firstN_none hp]; omega)]
theorem cpC_k {w : mW} {a i b j n : Int} {k : Nat} (h : cpE w a i b j n = 0) (hk : k < n.toNat) (h1 : cpP w a i b k = true) (hp : ∀ q : Nat, q < k → cpP w a i b q = false) : cpC w a i b j n = (4, k) := by
  have e : cpK w a i b n = k := firstN_at hk h1 hp
  unfold cpC
  rw [if_neg (by omega), e, if_pos hk]
theorem cpP_8 {w : mW} {a i b : Int} (h : w 4 (w 28 b) < 8) (k : Nat) : cpP w a i b k = false := by
  unfold cpP
  rw [show decide (8 ≤ w 4 (w 28 b)) = false from decide_eq_false (by omega)]; rfl
theorem cpP_n {w : mW} {a i b : Int} {k : Nat} (h : 0 ≤ w 31 (20 * a + i + k) → isa w (w 28 (w 31 (20 * a + i + k))) (w 4 (w 28 b)) = true) : cpP w a i b k = false := by
  unfold cpP
  by_cases h0 : 0 ≤ w 31 (20 * a + i + k)
  · rw [h h0]; simp
  · rw [show decide (0 ≤ w 31 (20 * a + i + k)) = false from decide_eq_false h0]; simp
theorem cpP_y {w : mW} {a i b : Int} {k : Nat} (h8 : 8 ≤ w 4 (w 28 b)) (h0 : 0 ≤ w 31 (20 * a + i + k)) (h : isa w (w 28 (w 31 (20 * a + i + k))) (w 4 (w 28 b)) = false) : cpP w a i b k = true := by
  unfold cpP
  rw [h, show decide (8 ≤ w 4 (w 28 b)) = true from decide_eq_true h8, show decide (0 ≤ w 31 (20 * a + i + k)) = true from decide_eq_true h0]; rfl
/-- in a row that is copied to itself, and in rows of primitives, all go over -/
theorem cpP_all {w : mW} (hIt : xIt w) {a i b n : Int} (ha : 0 ≤ a ∧ a < w 27 0) (h29 : w 29 a ≠ -1) (hi : 0 ≤ i) (hn : i + n ≤ w 29 a) (h : a = b ∨ w 4 (w 28 b) < 8) : ∀ k : Nat, k < n.toNat → cpP w a i b k = false := fun k hk => by
  by_cases h8 : w 4 (w 28 b) < 8
  · exact cpP_8 h8 k
  · have e : a = b := by omega
    subst e
    refine cpP_n fun h0 => ?_
    have e1 : 20 * a + i + (k : Int) = 20 * a + (i + k) := by omega
    rw [e1] at h0 ⊢
    exact hIt a (i + k) ha.1 ha.2 h29 (by omega) (by omega) (by omega) h0
/-- what the rows of a thing hold -/
theorem it_f {w : mW} (hV : mV w) (hw : mWF w) {x : Int} (hx : 0 ≤ x ∧ x < w 27 0) (h9 : w 29 x ≠ -1) (h20 : w 29 x ≤ 20) : ∀ r : Nat, r < (w 29 x).toNat → ftB w (w 4 (w 28 x)) ((fun q : Nat => w 31 (20 * x + q)) r) = true ∧ inL ((fun q : Nat => w 31 (20 * x + q)) r) := fun r hr => ⟨hV.2.2.2.1 x r hx.1 hx.2 (by omega) (by omega) h9, hw.l _ _⟩

