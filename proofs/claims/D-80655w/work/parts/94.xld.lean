/-! ===== loads: what comes of them ===== -/
/-- a value that a type may hold -/
def xVok (t b : Int) : Prop := (t = 0 → b = 0 ∨ b = 1) ∧ (0 ≤ t → t ≤ 4 → inR b) ∧ inL b ∧ nmOk t b
def ldE (t : Int) (ln : Nat) (i as : Int) : Int := if (as = 8 ∧ t < 8) ∨ (as ≠ 8 ∧ 8 ≤ t) then 2 else if i < 0 ∨ (ln : Int) ≤ i then 3 else if as ≠ 8 ∧ wdB t as = false then 2 else 0
theorem ld_ref {t i as : Int} {ln : Nat} (h1 : as ≠ 8) (h : 8 ≤ t) : ldE t ln i as = 2 := if_pos (Or.inr ⟨h1, h⟩)
theorem ld_out {t i as : Int} {ln : Nat} (h1 : as ≠ 8) (h : t < 8) (h2 : i < 0 ∨ (ln : Int) ≤ i) : ldE t ln i as = 3 := by unfold ldE; rw [if_neg (by omega), if_pos h2]
theorem ld_mis {t i as : Int} {ln : Nat} (h1 : as ≠ 8) (h : t < 8) (h2 : 0 ≤ i) (h3 : i < (ln : Int)) (h4 : wdB t as = false) : ldE t ln i as = 2 := by unfold ldE; rw [if_neg (by omega), if_neg (by omega), if_pos ⟨h1, h4⟩]
theorem ld_ok {t i as : Int} {ln : Nat} (h1 : as ≠ 8) (h : t < 8) (h2 : 0 ≤ i) (h3 : i < (ln : Int)) (h4 : wdB t as = true) : ldE t ln i as = 0 := by unfold ldE; rw [if_neg (by omega), if_neg (by omega), if_neg (by rw [h4]; simp)]
def ldV (t as b : Int) : Value := if as ≤ 4 then .int (iI b) else if as = 5 then .long (lI b) else if as = 6 then .float (U32 (wdL b t 6)) else .double (U64 (wdL b t 7))
theorem U32_sJ (x : UInt32) : U32 (sJ x) = x := by
  show (iI (sJ x)).toUInt32 = x
  rw [← iI_sJ]
  rfl
theorem U64_sI (x : UInt64) : U64 (sI x) = x := by
  show (lI (sI x)).toUInt64 = x
  rw [← lI_sI]
  rfl
theorem i2f_l2f {b : Int} (h : inR b) : FP.i2f (iI b) = FP.l2f (lI b) := by
  have e1 : (iI b).toInt = b := iI_toInt h
  have e2 : (lI b).toInt = b := lI_toInt ⟨by have := h.1; omega, by have := h.2; omega⟩
  unfold FP.i2f FP.l2f
  first | rw [e1, e2] | simp only [FP.Core.i2f, FP.Core.l2f, e1, e2]
theorem i2d_l2d {b : Int} (h : inR b) : FP.i2d (iI b) = FP.l2d (lI b) := by
  have e1 : (iI b).toInt = b := iI_toInt h
  have e2 : (lI b).toInt = b := lI_toInt ⟨by have := h.1; omega, by have := h.2; omega⟩
  unfold FP.i2d FP.l2d
  first | rw [e1, e2] | simp only [FP.Core.i2d, FP.Core.l2d, e1, e2]
theorem wdl_same (b t : Int) : wdL b t t = b := by unfold wdL; rw [if_pos (Or.inl rfl)]
theorem wdl_6 {b t : Int} (h : t < 6) : U32 (wdL b t 6) = FP.l2f (lI b) := by
  unfold wdL
  rw [if_neg (show ¬ (t = 6 ∨ 8 ≤ t ∨ (6 : Int) < 6) by omega), if_neg (show ¬ t = 6 by omega), if_pos rfl, U32_sJ]
theorem wdl_7 {b t : Int} (h : t < 6) : U64 (wdL b t 7) = FP.l2d (lI b) := by
  unfold wdL
  rw [if_neg (show ¬ (t = 7 ∨ 8 ≤ t ∨ (7 : Int) < 6) by omega), if_neg (show ¬ t = 6 by omega), if_neg (show ¬ (7 : Int) = 6 by decide), U64_sI]
theorem wdl_67 {b : Int} : U64 (wdL b 6 7) = FP.f2d (U32 b) := by
  unfold wdL
  rw [if_neg (show ¬ ((6 : Int) = 7 ∨ 8 ≤ (6 : Int) ∨ (7 : Int) < 6) by decide), if_pos rfl, U64_sI]
theorem wdl_vg {t b : Int} (h : xVok t b) (h7 : t ≤ 6) : vf_n32 (U32 (wdL b t 6)) := by
  by_cases h6 : t = 6
  · subst h6; rw [wdl_same]; exact U32_vg (h.2.2.2.2 rfl).2
  · rw [wdl_6 (by omega)]; exact l2f_vf _
theorem wdl_vf {t b : Int} (h : xVok t b) (h7 : t ≤ 7) : vf_n64 (U64 (wdL b t 7)) := by
  by_cases h6 : t = 7
  · subst h6; rw [wdl_same]; exact U64_vf (h.2.2.2.1 rfl)
  · by_cases h5 : t = 6
    · subst h5; rw [wdl_67]; exact f2d_vf (U32_vg (h.2.2.2.2 rfl).2)
    · rw [wdl_7 (by omega)]; exact l2d_vf _
theorem wdl_R {t b : Int} (h : xVok t b) (h7 : t ≤ 6) : inR (wdL b t 6) := by
  by_cases h6 : t = 6
  · subst h6; rw [wdl_same]; exact (h.2.2.2.2 rfl).1
  · unfold wdL; rw [if_neg (show ¬ (t = 6 ∨ 8 ≤ t ∨ (6 : Int) < 6) by omega), if_neg h6, if_pos rfl]; exact sJ_R _
theorem awd {s t : FieldType} {v : Value} (h : ∀ b, v ≠ .double b) : afterWidening s t v = Sem.pure v := by
  cases v <;> first | rfl | exact absurd rfl (h _)
theorem awd1 {s t : FieldType} {b : UInt64} (h : (s == .float && t == .double) = false) : afterWidening s t (.double b) = Sem.pure (.double b) := by
  unfold afterWidening
  simp only [h, Bool.false_eq_true, if_false]
  rfl
theorem awd2 {b : UInt64} (h : vf_n64 b) : afterWidening .float .double (.double b) = Sem.pure (.double b) := by
  unfold afterWidening
  simp only [show ((FieldType.float == FieldType.float) && (FieldType.double == FieldType.double)) = true from rfl, if_true]
  unfold anyNaN64
  rw [if_pos (show b &&& 9223372036854775807 ≤ 9218868437227405312 from h)]
  rfl

section XLD
variable {κ : zK} {nm : String} {cc : ByteArray} {nL : Nat} {ret : Option FieldType} {rm : Room} {P : Option Value → (Heap → Prop) → Prop} {n k pc : Nat} {lv : List (Nat × Value)} {st rest : List Value}
variable {θ : zTh} {l : Launch} {σ : xA} {w : mW} {M N : zMap} {a ln : Nat} {t i : Int} {v : Nat → Int} {e : va_E}
theorem x_ld0 (C : ZC κ "ReflectMirror" nm cc nL ret rm P) (hκ : κ.1 = θ) (hκl : κ.2.2.1 = l) (hT : zTb θ) (hZ : zTx θ l) (q : Nat) (hM : M a = some e) (hr : xRow θ σ w t ln v e) (hv : ∀ j : Nat, j < ln → xVok t (v j)) (hln : ln ≤ 1000) (ri : inR i) (d : decode cc pc = .ok (.invokestatic 69, 3)) (hf : 9 ≤ rm.frames) (hlo : 10250 ≤ rm.locals) (hsz : (rest.map fun v => v.category).sum ≤ 8) (hce : n + 3 ≤ rm.cells) (hsl : k + 210 ≤ rm.slots) (hq : pc + 3 = q) (kk : ldE t ln i 0 = 0 → Z κ (zP θ M N) n k q lv (ldV t 0 (v i.toNat) :: rest)) (kx : ∀ (E : String) (c : Int) (b : Nat), ldE t ln i 0 = c → c ≠ 0 → xEz E c → zX κ (zP θ M N) (n + 3) (k + 210) pc lv b E) : Z κ (zP θ M N) n k pc lv (.int (iI i) :: .ref a :: rest) := by
  rcases hr with ⟨r1, r2, f, rfl, r3⟩ | ⟨r1, f, rfl, r3⟩ | ⟨r1, f, rfl, r3⟩ | ⟨r1, f, rfl, r3⟩ | ⟨r1, f, rfl, r3⟩
  · rcases (show t = 0 ∨ t = 1 ∨ t = 2 ∨ t = 3 ∨ t = 4 by omega) with rfl | rfl | rfl | rfl | rfl
    · by_cases hin : 0 ≤ i ∧ i < (ln : Int)
      · have hval : (.int (f i.toNat) : Value) = ldV 0 0 (v i.toNat) := by show Value.int (f i.toNat) = ldV _ _ _; rw [r3 i.toNat (by omega)]; rfl
        exact zn_getOk (v' := .int (f i.toNat)) (t0 := 0) C hκ hκl q hM rfl rfl hin.1 hin.2 (show ln ≤ 2147483647 by omega) rfl rfl zy_getBoolean zc_getBoolean d (by omega) (by omega) hsz hq (by rw [hval]; exact kk (ld_ok (by decide) (by decide) hin.1 hin.2 (by decide)))
      · have hout : i < 0 ∨ (ln : Int) ≤ i := by omega
        exact zn_getOut (t0 := 0) C hκ hκl hT hZ hM rfl rfl ri hout zy_getBoolean zc_getBoolean d hf hlo hsz (by omega) (by omega) (fun b => zx_widen (Nat.add_le_add_left (by decide) _) (Nat.add_le_add_left (by decide) _) (kx _ 3 b (ld_out (by decide) (by decide) hout) (by decide) (Or.inr (Or.inr (Or.inl ⟨rfl, rfl⟩)))))
    · by_cases hin : 0 ≤ i ∧ i < (ln : Int)
      · exact zn_getMis (t0 := 1) C hκ hκl hT hZ hM rfl rfl hin.1 hin.2 (show ln ≤ 2147483647 by omega) rfl zy_getBoolean zc_getBoolean d hf hlo hsz (by omega) (by omega) (fun b => zx_widen (Nat.add_le_add_left (by decide) _) (Nat.add_le_add_left (by decide) _) (kx _ 2 b (ld_mis (by decide) (by decide) hin.1 hin.2 (by decide)) (by decide) (Or.inr (Or.inl ⟨rfl, rfl⟩))))
      · have hout : i < 0 ∨ (ln : Int) ≤ i := by omega
        exact zn_getOut (t0 := 1) C hκ hκl hT hZ hM rfl rfl ri hout zy_getBoolean zc_getBoolean d hf hlo hsz (by omega) (by omega) (fun b => zx_widen (Nat.add_le_add_left (by decide) _) (Nat.add_le_add_left (by decide) _) (kx _ 3 b (ld_out (by decide) (by decide) hout) (by decide) (Or.inr (Or.inr (Or.inl ⟨rfl, rfl⟩)))))
    · by_cases hin : 0 ≤ i ∧ i < (ln : Int)
      · exact zn_getMis (t0 := 2) C hκ hκl hT hZ hM rfl rfl hin.1 hin.2 (show ln ≤ 2147483647 by omega) rfl zy_getBoolean zc_getBoolean d hf hlo hsz (by omega) (by omega) (fun b => zx_widen (Nat.add_le_add_left (by decide) _) (Nat.add_le_add_left (by decide) _) (kx _ 2 b (ld_mis (by decide) (by decide) hin.1 hin.2 (by decide)) (by decide) (Or.inr (Or.inl ⟨rfl, rfl⟩))))
      · have hout : i < 0 ∨ (ln : Int) ≤ i := by omega
        exact zn_getOut (t0 := 2) C hκ hκl hT hZ hM rfl rfl ri hout zy_getBoolean zc_getBoolean d hf hlo hsz (by omega) (by omega) (fun b => zx_widen (Nat.add_le_add_left (by decide) _) (Nat.add_le_add_left (by decide) _) (kx _ 3 b (ld_out (by decide) (by decide) hout) (by decide) (Or.inr (Or.inr (Or.inl ⟨rfl, rfl⟩)))))
    · by_cases hin : 0 ≤ i ∧ i < (ln : Int)
      · exact zn_getMis (t0 := 3) C hκ hκl hT hZ hM rfl rfl hin.1 hin.2 (show ln ≤ 2147483647 by omega) rfl zy_getBoolean zc_getBoolean d hf hlo hsz (by omega) (by omega) (fun b => zx_widen (Nat.add_le_add_left (by decide) _) (Nat.add_le_add_left (by decide) _) (kx _ 2 b (ld_mis (by decide) (by decide) hin.1 hin.2 (by decide)) (by decide) (Or.inr (Or.inl ⟨rfl, rfl⟩))))
      · have hout : i < 0 ∨ (ln : Int) ≤ i := by omega
        exact zn_getOut (t0 := 3) C hκ hκl hT hZ hM rfl rfl ri hout zy_getBoolean zc_getBoolean d hf hlo hsz (by omega) (by omega) (fun b => zx_widen (Nat.add_le_add_left (by decide) _) (Nat.add_le_add_left (by decide) _) (kx _ 3 b (ld_out (by decide) (by decide) hout) (by decide) (Or.inr (Or.inr (Or.inl ⟨rfl, rfl⟩)))))
    · by_cases hin : 0 ≤ i ∧ i < (ln : Int)
      · exact zn_getMis (t0 := 4) C hκ hκl hT hZ hM rfl rfl hin.1 hin.2 (show ln ≤ 2147483647 by omega) rfl zy_getBoolean zc_getBoolean d hf hlo hsz (by omega) (by omega) (fun b => zx_widen (Nat.add_le_add_left (by decide) _) (Nat.add_le_add_left (by decide) _) (kx _ 2 b (ld_mis (by decide) (by decide) hin.1 hin.2 (by decide)) (by decide) (Or.inr (Or.inl ⟨rfl, rfl⟩))))
      · have hout : i < 0 ∨ (ln : Int) ≤ i := by omega
        exact zn_getOut (t0 := 4) C hκ hκl hT hZ hM rfl rfl ri hout zy_getBoolean zc_getBoolean d hf hlo hsz (by omega) (by omega) (fun b => zx_widen (Nat.add_le_add_left (by decide) _) (Nat.add_le_add_left (by decide) _) (kx _ 3 b (ld_out (by decide) (by decide) hout) (by decide) (Or.inr (Or.inr (Or.inl ⟨rfl, rfl⟩)))))
  · subst r1
    by_cases hin : 0 ≤ i ∧ i < (ln : Int)
    · exact zn_getMis (t0 := 5) C hκ hκl hT hZ hM rfl rfl hin.1 hin.2 (show ln ≤ 2147483647 by omega) rfl zy_getBoolean zc_getBoolean d hf hlo hsz (by omega) (by omega) (fun b => zx_widen (Nat.add_le_add_left (by decide) _) (Nat.add_le_add_left (by decide) _) (kx _ 2 b (ld_mis (by decide) (by decide) hin.1 hin.2 (by decide)) (by decide) (Or.inr (Or.inl ⟨rfl, rfl⟩))))
    · have hout : i < 0 ∨ (ln : Int) ≤ i := by omega
      exact zn_getOut (t0 := 5) C hκ hκl hT hZ hM rfl rfl ri hout zy_getBoolean zc_getBoolean d hf hlo hsz (by omega) (by omega) (fun b => zx_widen (Nat.add_le_add_left (by decide) _) (Nat.add_le_add_left (by decide) _) (kx _ 3 b (ld_out (by decide) (by decide) hout) (by decide) (Or.inr (Or.inr (Or.inl ⟨rfl, rfl⟩)))))
  · subst r1
    by_cases hin : 0 ≤ i ∧ i < (ln : Int)
    · exact zn_getMis (t0 := 6) C hκ hκl hT hZ hM rfl rfl hin.1 hin.2 (show ln ≤ 2147483647 by omega) rfl zy_getBoolean zc_getBoolean d hf hlo hsz (by omega) (by omega) (fun b => zx_widen (Nat.add_le_add_left (by decide) _) (Nat.add_le_add_left (by decide) _) (kx _ 2 b (ld_mis (by decide) (by decide) hin.1 hin.2 (by decide)) (by decide) (Or.inr (Or.inl ⟨rfl, rfl⟩))))
    · have hout : i < 0 ∨ (ln : Int) ≤ i := by omega
      exact zn_getOut (t0 := 6) C hκ hκl hT hZ hM rfl rfl ri hout zy_getBoolean zc_getBoolean d hf hlo hsz (by omega) (by omega) (fun b => zx_widen (Nat.add_le_add_left (by decide) _) (Nat.add_le_add_left (by decide) _) (kx _ 3 b (ld_out (by decide) (by decide) hout) (by decide) (Or.inr (Or.inr (Or.inl ⟨rfl, rfl⟩)))))
  · subst r1
    by_cases hin : 0 ≤ i ∧ i < (ln : Int)
    · exact zn_getMis (t0 := 7) C hκ hκl hT hZ hM rfl rfl hin.1 hin.2 (show ln ≤ 2147483647 by omega) rfl zy_getBoolean zc_getBoolean d hf hlo hsz (by omega) (by omega) (fun b => zx_widen (Nat.add_le_add_left (by decide) _) (Nat.add_le_add_left (by decide) _) (kx _ 2 b (ld_mis (by decide) (by decide) hin.1 hin.2 (by decide)) (by decide) (Or.inr (Or.inl ⟨rfl, rfl⟩))))
    · have hout : i < 0 ∨ (ln : Int) ≤ i := by omega
      exact zn_getOut (t0 := 7) C hκ hκl hT hZ hM rfl rfl ri hout zy_getBoolean zc_getBoolean d hf hlo hsz (by omega) (by omega) (fun b => zx_widen (Nat.add_le_add_left (by decide) _) (Nat.add_le_add_left (by decide) _) (kx _ 3 b (ld_out (by decide) (by decide) hout) (by decide) (Or.inr (Or.inr (Or.inl ⟨rfl, rfl⟩)))))
  · have hx9 : xcA θ w t = θ.2.1 10 ∨ xcA θ w t = θ.2.1 13 ∨ xcA θ w t = θ.2.1 12 := by unfold xcA; split; exact Or.inl rfl; split; exact Or.inr (Or.inl rfl); exact Or.inr (Or.inr rfl)
    rcases hx9 with hx9 | hx9 | hx9 <;> rw [hx9] at hM
    · exact zn_getRef (t0 := 10) C hκ hκl hT hZ hM rfl rfl zy_getBoolean zc_getBoolean d hf hlo hsz (by omega) (by omega) (fun b => zx_widen (Nat.add_le_add_left (by decide) _) (Nat.add_le_add_left (by decide) _) (kx _ 2 b (ld_ref (by decide) r1) (by decide) (Or.inr (Or.inl ⟨rfl, rfl⟩))))
    · exact zn_getRef (t0 := 13) C hκ hκl hT hZ hM rfl rfl zy_getBoolean zc_getBoolean d hf hlo hsz (by omega) (by omega) (fun b => zx_widen (Nat.add_le_add_left (by decide) _) (Nat.add_le_add_left (by decide) _) (kx _ 2 b (ld_ref (by decide) r1) (by decide) (Or.inr (Or.inl ⟨rfl, rfl⟩))))
    · exact zn_getRef (t0 := 12) C hκ hκl hT hZ hM rfl rfl zy_getBoolean zc_getBoolean d hf hlo hsz (by omega) (by omega) (fun b => zx_widen (Nat.add_le_add_left (by decide) _) (Nat.add_le_add_left (by decide) _) (kx _ 2 b (ld_ref (by decide) r1) (by decide) (Or.inr (Or.inl ⟨rfl, rfl⟩))))
theorem x_ld1 (C : ZC κ "ReflectMirror" nm cc nL ret rm P) (hκ : κ.1 = θ) (hκl : κ.2.2.1 = l) (hT : zTb θ) (hZ : zTx θ l) (q : Nat) (hM : M a = some e) (hr : xRow θ σ w t ln v e) (hv : ∀ j : Nat, j < ln → xVok t (v j)) (hln : ln ≤ 1000) (ri : inR i) (d : decode cc pc = .ok (.invokestatic 81, 3)) (hf : 9 ≤ rm.frames) (hlo : 10250 ≤ rm.locals) (hsz : (rest.map fun v => v.category).sum ≤ 8) (hce : n + 3 ≤ rm.cells) (hsl : k + 210 ≤ rm.slots) (hq : pc + 3 = q) (kk : ldE t ln i 1 = 0 → Z κ (zP θ M N) n k q lv (ldV t 1 (v i.toNat) :: rest)) (kx : ∀ (E : String) (c : Int) (b : Nat), ldE t ln i 1 = c → c ≠ 0 → xEz E c → zX κ (zP θ M N) (n + 3) (k + 210) pc lv b E) : Z κ (zP θ M N) n k pc lv (.int (iI i) :: .ref a :: rest) := by
  rcases hr with ⟨r1, r2, f, rfl, r3⟩ | ⟨r1, f, rfl, r3⟩ | ⟨r1, f, rfl, r3⟩ | ⟨r1, f, rfl, r3⟩ | ⟨r1, f, rfl, r3⟩
  · rcases (show t = 0 ∨ t = 1 ∨ t = 2 ∨ t = 3 ∨ t = 4 by omega) with rfl | rfl | rfl | rfl | rfl
    · by_cases hin : 0 ≤ i ∧ i < (ln : Int)
      · exact zn_getMis (t0 := 0) C hκ hκl hT hZ hM rfl rfl hin.1 hin.2 (show ln ≤ 2147483647 by omega) rfl zy_getChar zc_getChar d hf hlo hsz (by omega) (by omega) (fun b => zx_widen (Nat.add_le_add_left (by decide) _) (Nat.add_le_add_left (by decide) _) (kx _ 2 b (ld_mis (by decide) (by decide) hin.1 hin.2 (by decide)) (by decide) (Or.inr (Or.inl ⟨rfl, rfl⟩))))
      · have hout : i < 0 ∨ (ln : Int) ≤ i := by omega
        exact zn_getOut (t0 := 0) C hκ hκl hT hZ hM rfl rfl ri hout zy_getChar zc_getChar d hf hlo hsz (by omega) (by omega) (fun b => zx_widen (Nat.add_le_add_left (by decide) _) (Nat.add_le_add_left (by decide) _) (kx _ 3 b (ld_out (by decide) (by decide) hout) (by decide) (Or.inr (Or.inr (Or.inl ⟨rfl, rfl⟩)))))
    · by_cases hin : 0 ≤ i ∧ i < (ln : Int)
      · have hval : (.int (f i.toNat) : Value) = ldV 1 1 (v i.toNat) := by show Value.int (f i.toNat) = ldV _ _ _; rw [r3 i.toNat (by omega)]; rfl
        exact zn_getOk (v' := .int (f i.toNat)) (t0 := 1) C hκ hκl q hM rfl rfl hin.1 hin.2 (show ln ≤ 2147483647 by omega) rfl rfl zy_getChar zc_getChar d (by omega) (by omega) hsz hq (by rw [hval]; exact kk (ld_ok (by decide) (by decide) hin.1 hin.2 (by decide)))
      · have hout : i < 0 ∨ (ln : Int) ≤ i := by omega
        exact zn_getOut (t0 := 1) C hκ hκl hT hZ hM rfl rfl ri hout zy_getChar zc_getChar d hf hlo hsz (by omega) (by omega) (fun b => zx_widen (Nat.add_le_add_left (by decide) _) (Nat.add_le_add_left (by decide) _) (kx _ 3 b (ld_out (by decide) (by decide) hout) (by decide) (Or.inr (Or.inr (Or.inl ⟨rfl, rfl⟩)))))
    · by_cases hin : 0 ≤ i ∧ i < (ln : Int)
      · exact zn_getMis (t0 := 2) C hκ hκl hT hZ hM rfl rfl hin.1 hin.2 (show ln ≤ 2147483647 by omega) rfl zy_getChar zc_getChar d hf hlo hsz (by omega) (by omega) (fun b => zx_widen (Nat.add_le_add_left (by decide) _) (Nat.add_le_add_left (by decide) _) (kx _ 2 b (ld_mis (by decide) (by decide) hin.1 hin.2 (by decide)) (by decide) (Or.inr (Or.inl ⟨rfl, rfl⟩))))
      · have hout : i < 0 ∨ (ln : Int) ≤ i := by omega
        exact zn_getOut (t0 := 2) C hκ hκl hT hZ hM rfl rfl ri hout zy_getChar zc_getChar d hf hlo hsz (by omega) (by omega) (fun b => zx_widen (Nat.add_le_add_left (by decide) _) (Nat.add_le_add_left (by decide) _) (kx _ 3 b (ld_out (by decide) (by decide) hout) (by decide) (Or.inr (Or.inr (Or.inl ⟨rfl, rfl⟩)))))
    · by_cases hin : 0 ≤ i ∧ i < (ln : Int)
      · exact zn_getMis (t0 := 3) C hκ hκl hT hZ hM rfl rfl hin.1 hin.2 (show ln ≤ 2147483647 by omega) rfl zy_getChar zc_getChar d hf hlo hsz (by omega) (by omega) (fun b => zx_widen (Nat.add_le_add_left (by decide) _) (Nat.add_le_add_left (by decide) _) (kx _ 2 b (ld_mis (by decide) (by decide) hin.1 hin.2 (by decide)) (by decide) (Or.inr (Or.inl ⟨rfl, rfl⟩))))
      · have hout : i < 0 ∨ (ln : Int) ≤ i := by omega
        exact zn_getOut (t0 := 3) C hκ hκl hT hZ hM rfl rfl ri hout zy_getChar zc_getChar d hf hlo hsz (by omega) (by omega) (fun b => zx_widen (Nat.add_le_add_left (by decide) _) (Nat.add_le_add_left (by decide) _) (kx _ 3 b (ld_out (by decide) (by decide) hout) (by decide) (Or.inr (Or.inr (Or.inl ⟨rfl, rfl⟩)))))
    · by_cases hin : 0 ≤ i ∧ i < (ln : Int)
      · exact zn_getMis (t0 := 4) C hκ hκl hT hZ hM rfl rfl hin.1 hin.2 (show ln ≤ 2147483647 by omega) rfl zy_getChar zc_getChar d hf hlo hsz (by omega) (by omega) (fun b => zx_widen (Nat.add_le_add_left (by decide) _) (Nat.add_le_add_left (by decide) _) (kx _ 2 b (ld_mis (by decide) (by decide) hin.1 hin.2 (by decide)) (by decide) (Or.inr (Or.inl ⟨rfl, rfl⟩))))
      · have hout : i < 0 ∨ (ln : Int) ≤ i := by omega
        exact zn_getOut (t0 := 4) C hκ hκl hT hZ hM rfl rfl ri hout zy_getChar zc_getChar d hf hlo hsz (by omega) (by omega) (fun b => zx_widen (Nat.add_le_add_left (by decide) _) (Nat.add_le_add_left (by decide) _) (kx _ 3 b (ld_out (by decide) (by decide) hout) (by decide) (Or.inr (Or.inr (Or.inl ⟨rfl, rfl⟩)))))
  · subst r1
    by_cases hin : 0 ≤ i ∧ i < (ln : Int)
    · exact zn_getMis (t0 := 5) C hκ hκl hT hZ hM rfl rfl hin.1 hin.2 (show ln ≤ 2147483647 by omega) rfl zy_getChar zc_getChar d hf hlo hsz (by omega) (by omega) (fun b => zx_widen (Nat.add_le_add_left (by decide) _) (Nat.add_le_add_left (by decide) _) (kx _ 2 b (ld_mis (by decide) (by decide) hin.1 hin.2 (by decide)) (by decide) (Or.inr (Or.inl ⟨rfl, rfl⟩))))
    · have hout : i < 0 ∨ (ln : Int) ≤ i := by omega
      exact zn_getOut (t0 := 5) C hκ hκl hT hZ hM rfl rfl ri hout zy_getChar zc_getChar d hf hlo hsz (by omega) (by omega) (fun b => zx_widen (Nat.add_le_add_left (by decide) _) (Nat.add_le_add_left (by decide) _) (kx _ 3 b (ld_out (by decide) (by decide) hout) (by decide) (Or.inr (Or.inr (Or.inl ⟨rfl, rfl⟩)))))
  · subst r1
    by_cases hin : 0 ≤ i ∧ i < (ln : Int)
    · exact zn_getMis (t0 := 6) C hκ hκl hT hZ hM rfl rfl hin.1 hin.2 (show ln ≤ 2147483647 by omega) rfl zy_getChar zc_getChar d hf hlo hsz (by omega) (by omega) (fun b => zx_widen (Nat.add_le_add_left (by decide) _) (Nat.add_le_add_left (by decide) _) (kx _ 2 b (ld_mis (by decide) (by decide) hin.1 hin.2 (by decide)) (by decide) (Or.inr (Or.inl ⟨rfl, rfl⟩))))
    · have hout : i < 0 ∨ (ln : Int) ≤ i := by omega
      exact zn_getOut (t0 := 6) C hκ hκl hT hZ hM rfl rfl ri hout zy_getChar zc_getChar d hf hlo hsz (by omega) (by omega) (fun b => zx_widen (Nat.add_le_add_left (by decide) _) (Nat.add_le_add_left (by decide) _) (kx _ 3 b (ld_out (by decide) (by decide) hout) (by decide) (Or.inr (Or.inr (Or.inl ⟨rfl, rfl⟩)))))
  · subst r1
    by_cases hin : 0 ≤ i ∧ i < (ln : Int)
    · exact zn_getMis (t0 := 7) C hκ hκl hT hZ hM rfl rfl hin.1 hin.2 (show ln ≤ 2147483647 by omega) rfl zy_getChar zc_getChar d hf hlo hsz (by omega) (by omega) (fun b => zx_widen (Nat.add_le_add_left (by decide) _) (Nat.add_le_add_left (by decide) _) (kx _ 2 b (ld_mis (by decide) (by decide) hin.1 hin.2 (by decide)) (by decide) (Or.inr (Or.inl ⟨rfl, rfl⟩))))
    · have hout : i < 0 ∨ (ln : Int) ≤ i := by omega
      exact zn_getOut (t0 := 7) C hκ hκl hT hZ hM rfl rfl ri hout zy_getChar zc_getChar d hf hlo hsz (by omega) (by omega) (fun b => zx_widen (Nat.add_le_add_left (by decide) _) (Nat.add_le_add_left (by decide) _) (kx _ 3 b (ld_out (by decide) (by decide) hout) (by decide) (Or.inr (Or.inr (Or.inl ⟨rfl, rfl⟩)))))
  · have hx9 : xcA θ w t = θ.2.1 10 ∨ xcA θ w t = θ.2.1 13 ∨ xcA θ w t = θ.2.1 12 := by unfold xcA; split; exact Or.inl rfl; split; exact Or.inr (Or.inl rfl); exact Or.inr (Or.inr rfl)
    rcases hx9 with hx9 | hx9 | hx9 <;> rw [hx9] at hM
    · exact zn_getRef (t0 := 10) C hκ hκl hT hZ hM rfl rfl zy_getChar zc_getChar d hf hlo hsz (by omega) (by omega) (fun b => zx_widen (Nat.add_le_add_left (by decide) _) (Nat.add_le_add_left (by decide) _) (kx _ 2 b (ld_ref (by decide) r1) (by decide) (Or.inr (Or.inl ⟨rfl, rfl⟩))))
    · exact zn_getRef (t0 := 13) C hκ hκl hT hZ hM rfl rfl zy_getChar zc_getChar d hf hlo hsz (by omega) (by omega) (fun b => zx_widen (Nat.add_le_add_left (by decide) _) (Nat.add_le_add_left (by decide) _) (kx _ 2 b (ld_ref (by decide) r1) (by decide) (Or.inr (Or.inl ⟨rfl, rfl⟩))))
    · exact zn_getRef (t0 := 12) C hκ hκl hT hZ hM rfl rfl zy_getChar zc_getChar d hf hlo hsz (by omega) (by omega) (fun b => zx_widen (Nat.add_le_add_left (by decide) _) (Nat.add_le_add_left (by decide) _) (kx _ 2 b (ld_ref (by decide) r1) (by decide) (Or.inr (Or.inl ⟨rfl, rfl⟩))))
theorem x_ld2 (C : ZC κ "ReflectMirror" nm cc nL ret rm P) (hκ : κ.1 = θ) (hκl : κ.2.2.1 = l) (hT : zTb θ) (hZ : zTx θ l) (q : Nat) (hM : M a = some e) (hr : xRow θ σ w t ln v e) (hv : ∀ j : Nat, j < ln → xVok t (v j)) (hln : ln ≤ 1000) (ri : inR i) (d : decode cc pc = .ok (.invokestatic 85, 3)) (hf : 9 ≤ rm.frames) (hlo : 10250 ≤ rm.locals) (hsz : (rest.map fun v => v.category).sum ≤ 8) (hce : n + 3 ≤ rm.cells) (hsl : k + 210 ≤ rm.slots) (hq : pc + 3 = q) (kk : ldE t ln i 2 = 0 → Z κ (zP θ M N) n k q lv (ldV t 2 (v i.toNat) :: rest)) (kx : ∀ (E : String) (c : Int) (b : Nat), ldE t ln i 2 = c → c ≠ 0 → xEz E c → zX κ (zP θ M N) (n + 3) (k + 210) pc lv b E) : Z κ (zP θ M N) n k pc lv (.int (iI i) :: .ref a :: rest) := by
  rcases hr with ⟨r1, r2, f, rfl, r3⟩ | ⟨r1, f, rfl, r3⟩ | ⟨r1, f, rfl, r3⟩ | ⟨r1, f, rfl, r3⟩ | ⟨r1, f, rfl, r3⟩
  · rcases (show t = 0 ∨ t = 1 ∨ t = 2 ∨ t = 3 ∨ t = 4 by omega) with rfl | rfl | rfl | rfl | rfl
    · by_cases hin : 0 ≤ i ∧ i < (ln : Int)
      · exact zn_getMis (t0 := 0) C hκ hκl hT hZ hM rfl rfl hin.1 hin.2 (show ln ≤ 2147483647 by omega) rfl zy_getByte zc_getByte d hf hlo hsz (by omega) (by omega) (fun b => zx_widen (Nat.add_le_add_left (by decide) _) (Nat.add_le_add_left (by decide) _) (kx _ 2 b (ld_mis (by decide) (by decide) hin.1 hin.2 (by decide)) (by decide) (Or.inr (Or.inl ⟨rfl, rfl⟩))))
      · have hout : i < 0 ∨ (ln : Int) ≤ i := by omega
        exact zn_getOut (t0 := 0) C hκ hκl hT hZ hM rfl rfl ri hout zy_getByte zc_getByte d hf hlo hsz (by omega) (by omega) (fun b => zx_widen (Nat.add_le_add_left (by decide) _) (Nat.add_le_add_left (by decide) _) (kx _ 3 b (ld_out (by decide) (by decide) hout) (by decide) (Or.inr (Or.inr (Or.inl ⟨rfl, rfl⟩)))))
    · by_cases hin : 0 ≤ i ∧ i < (ln : Int)
      · exact zn_getMis (t0 := 1) C hκ hκl hT hZ hM rfl rfl hin.1 hin.2 (show ln ≤ 2147483647 by omega) rfl zy_getByte zc_getByte d hf hlo hsz (by omega) (by omega) (fun b => zx_widen (Nat.add_le_add_left (by decide) _) (Nat.add_le_add_left (by decide) _) (kx _ 2 b (ld_mis (by decide) (by decide) hin.1 hin.2 (by decide)) (by decide) (Or.inr (Or.inl ⟨rfl, rfl⟩))))
      · have hout : i < 0 ∨ (ln : Int) ≤ i := by omega
        exact zn_getOut (t0 := 1) C hκ hκl hT hZ hM rfl rfl ri hout zy_getByte zc_getByte d hf hlo hsz (by omega) (by omega) (fun b => zx_widen (Nat.add_le_add_left (by decide) _) (Nat.add_le_add_left (by decide) _) (kx _ 3 b (ld_out (by decide) (by decide) hout) (by decide) (Or.inr (Or.inr (Or.inl ⟨rfl, rfl⟩)))))
    · by_cases hin : 0 ≤ i ∧ i < (ln : Int)
      · have hval : (.int (f i.toNat) : Value) = ldV 2 2 (v i.toNat) := by show Value.int (f i.toNat) = ldV _ _ _; rw [r3 i.toNat (by omega)]; rfl
        exact zn_getOk (v' := .int (f i.toNat)) (t0 := 2) C hκ hκl q hM rfl rfl hin.1 hin.2 (show ln ≤ 2147483647 by omega) rfl rfl zy_getByte zc_getByte d (by omega) (by omega) hsz hq (by rw [hval]; exact kk (ld_ok (by decide) (by decide) hin.1 hin.2 (by decide)))
      · have hout : i < 0 ∨ (ln : Int) ≤ i := by omega
        exact zn_getOut (t0 := 2) C hκ hκl hT hZ hM rfl rfl ri hout zy_getByte zc_getByte d hf hlo hsz (by omega) (by omega) (fun b => zx_widen (Nat.add_le_add_left (by decide) _) (Nat.add_le_add_left (by decide) _) (kx _ 3 b (ld_out (by decide) (by decide) hout) (by decide) (Or.inr (Or.inr (Or.inl ⟨rfl, rfl⟩)))))
    · by_cases hin : 0 ≤ i ∧ i < (ln : Int)
      · exact zn_getMis (t0 := 3) C hκ hκl hT hZ hM rfl rfl hin.1 hin.2 (show ln ≤ 2147483647 by omega) rfl zy_getByte zc_getByte d hf hlo hsz (by omega) (by omega) (fun b => zx_widen (Nat.add_le_add_left (by decide) _) (Nat.add_le_add_left (by decide) _) (kx _ 2 b (ld_mis (by decide) (by decide) hin.1 hin.2 (by decide)) (by decide) (Or.inr (Or.inl ⟨rfl, rfl⟩))))
      · have hout : i < 0 ∨ (ln : Int) ≤ i := by omega
        exact zn_getOut (t0 := 3) C hκ hκl hT hZ hM rfl rfl ri hout zy_getByte zc_getByte d hf hlo hsz (by omega) (by omega) (fun b => zx_widen (Nat.add_le_add_left (by decide) _) (Nat.add_le_add_left (by decide) _) (kx _ 3 b (ld_out (by decide) (by decide) hout) (by decide) (Or.inr (Or.inr (Or.inl ⟨rfl, rfl⟩)))))
    · by_cases hin : 0 ≤ i ∧ i < (ln : Int)
      · exact zn_getMis (t0 := 4) C hκ hκl hT hZ hM rfl rfl hin.1 hin.2 (show ln ≤ 2147483647 by omega) rfl zy_getByte zc_getByte d hf hlo hsz (by omega) (by omega) (fun b => zx_widen (Nat.add_le_add_left (by decide) _) (Nat.add_le_add_left (by decide) _) (kx _ 2 b (ld_mis (by decide) (by decide) hin.1 hin.2 (by decide)) (by decide) (Or.inr (Or.inl ⟨rfl, rfl⟩))))
      · have hout : i < 0 ∨ (ln : Int) ≤ i := by omega
        exact zn_getOut (t0 := 4) C hκ hκl hT hZ hM rfl rfl ri hout zy_getByte zc_getByte d hf hlo hsz (by omega) (by omega) (fun b => zx_widen (Nat.add_le_add_left (by decide) _) (Nat.add_le_add_left (by decide) _) (kx _ 3 b (ld_out (by decide) (by decide) hout) (by decide) (Or.inr (Or.inr (Or.inl ⟨rfl, rfl⟩)))))
  · subst r1
    by_cases hin : 0 ≤ i ∧ i < (ln : Int)
    · exact zn_getMis (t0 := 5) C hκ hκl hT hZ hM rfl rfl hin.1 hin.2 (show ln ≤ 2147483647 by omega) rfl zy_getByte zc_getByte d hf hlo hsz (by omega) (by omega) (fun b => zx_widen (Nat.add_le_add_left (by decide) _) (Nat.add_le_add_left (by decide) _) (kx _ 2 b (ld_mis (by decide) (by decide) hin.1 hin.2 (by decide)) (by decide) (Or.inr (Or.inl ⟨rfl, rfl⟩))))
    · have hout : i < 0 ∨ (ln : Int) ≤ i := by omega
      exact zn_getOut (t0 := 5) C hκ hκl hT hZ hM rfl rfl ri hout zy_getByte zc_getByte d hf hlo hsz (by omega) (by omega) (fun b => zx_widen (Nat.add_le_add_left (by decide) _) (Nat.add_le_add_left (by decide) _) (kx _ 3 b (ld_out (by decide) (by decide) hout) (by decide) (Or.inr (Or.inr (Or.inl ⟨rfl, rfl⟩)))))
  · subst r1
    by_cases hin : 0 ≤ i ∧ i < (ln : Int)
    · exact zn_getMis (t0 := 6) C hκ hκl hT hZ hM rfl rfl hin.1 hin.2 (show ln ≤ 2147483647 by omega) rfl zy_getByte zc_getByte d hf hlo hsz (by omega) (by omega) (fun b => zx_widen (Nat.add_le_add_left (by decide) _) (Nat.add_le_add_left (by decide) _) (kx _ 2 b (ld_mis (by decide) (by decide) hin.1 hin.2 (by decide)) (by decide) (Or.inr (Or.inl ⟨rfl, rfl⟩))))
    · have hout : i < 0 ∨ (ln : Int) ≤ i := by omega
      exact zn_getOut (t0 := 6) C hκ hκl hT hZ hM rfl rfl ri hout zy_getByte zc_getByte d hf hlo hsz (by omega) (by omega) (fun b => zx_widen (Nat.add_le_add_left (by decide) _) (Nat.add_le_add_left (by decide) _) (kx _ 3 b (ld_out (by decide) (by decide) hout) (by decide) (Or.inr (Or.inr (Or.inl ⟨rfl, rfl⟩)))))
  · subst r1
    by_cases hin : 0 ≤ i ∧ i < (ln : Int)
    · exact zn_getMis (t0 := 7) C hκ hκl hT hZ hM rfl rfl hin.1 hin.2 (show ln ≤ 2147483647 by omega) rfl zy_getByte zc_getByte d hf hlo hsz (by omega) (by omega) (fun b => zx_widen (Nat.add_le_add_left (by decide) _) (Nat.add_le_add_left (by decide) _) (kx _ 2 b (ld_mis (by decide) (by decide) hin.1 hin.2 (by decide)) (by decide) (Or.inr (Or.inl ⟨rfl, rfl⟩))))
    · have hout : i < 0 ∨ (ln : Int) ≤ i := by omega
      exact zn_getOut (t0 := 7) C hκ hκl hT hZ hM rfl rfl ri hout zy_getByte zc_getByte d hf hlo hsz (by omega) (by omega) (fun b => zx_widen (Nat.add_le_add_left (by decide) _) (Nat.add_le_add_left (by decide) _) (kx _ 3 b (ld_out (by decide) (by decide) hout) (by decide) (Or.inr (Or.inr (Or.inl ⟨rfl, rfl⟩)))))
  · have hx9 : xcA θ w t = θ.2.1 10 ∨ xcA θ w t = θ.2.1 13 ∨ xcA θ w t = θ.2.1 12 := by unfold xcA; split; exact Or.inl rfl; split; exact Or.inr (Or.inl rfl); exact Or.inr (Or.inr rfl)
    rcases hx9 with hx9 | hx9 | hx9 <;> rw [hx9] at hM
    · exact zn_getRef (t0 := 10) C hκ hκl hT hZ hM rfl rfl zy_getByte zc_getByte d hf hlo hsz (by omega) (by omega) (fun b => zx_widen (Nat.add_le_add_left (by decide) _) (Nat.add_le_add_left (by decide) _) (kx _ 2 b (ld_ref (by decide) r1) (by decide) (Or.inr (Or.inl ⟨rfl, rfl⟩))))
    · exact zn_getRef (t0 := 13) C hκ hκl hT hZ hM rfl rfl zy_getByte zc_getByte d hf hlo hsz (by omega) (by omega) (fun b => zx_widen (Nat.add_le_add_left (by decide) _) (Nat.add_le_add_left (by decide) _) (kx _ 2 b (ld_ref (by decide) r1) (by decide) (Or.inr (Or.inl ⟨rfl, rfl⟩))))
    · exact zn_getRef (t0 := 12) C hκ hκl hT hZ hM rfl rfl zy_getByte zc_getByte d hf hlo hsz (by omega) (by omega) (fun b => zx_widen (Nat.add_le_add_left (by decide) _) (Nat.add_le_add_left (by decide) _) (kx _ 2 b (ld_ref (by decide) r1) (by decide) (Or.inr (Or.inl ⟨rfl, rfl⟩))))
theorem x_ld3 (C : ZC κ "ReflectMirror" nm cc nL ret rm P) (hκ : κ.1 = θ) (hκl : κ.2.2.1 = l) (hT : zTb θ) (hZ : zTx θ l) (q : Nat) (hM : M a = some e) (hr : xRow θ σ w t ln v e) (hv : ∀ j : Nat, j < ln → xVok t (v j)) (hln : ln ≤ 1000) (ri : inR i) (d : decode cc pc = .ok (.invokestatic 89, 3)) (hf : 9 ≤ rm.frames) (hlo : 10250 ≤ rm.locals) (hsz : (rest.map fun v => v.category).sum ≤ 8) (hce : n + 3 ≤ rm.cells) (hsl : k + 210 ≤ rm.slots) (hq : pc + 3 = q) (kk : ldE t ln i 3 = 0 → Z κ (zP θ M N) n k q lv (ldV t 3 (v i.toNat) :: rest)) (kx : ∀ (E : String) (c : Int) (b : Nat), ldE t ln i 3 = c → c ≠ 0 → xEz E c → zX κ (zP θ M N) (n + 3) (k + 210) pc lv b E) : Z κ (zP θ M N) n k pc lv (.int (iI i) :: .ref a :: rest) := by
  rcases hr with ⟨r1, r2, f, rfl, r3⟩ | ⟨r1, f, rfl, r3⟩ | ⟨r1, f, rfl, r3⟩ | ⟨r1, f, rfl, r3⟩ | ⟨r1, f, rfl, r3⟩
  · rcases (show t = 0 ∨ t = 1 ∨ t = 2 ∨ t = 3 ∨ t = 4 by omega) with rfl | rfl | rfl | rfl | rfl
    · by_cases hin : 0 ≤ i ∧ i < (ln : Int)
      · exact zn_getMis (t0 := 0) C hκ hκl hT hZ hM rfl rfl hin.1 hin.2 (show ln ≤ 2147483647 by omega) rfl zy_getShort zc_getShort d hf hlo hsz (by omega) (by omega) (fun b => zx_widen (Nat.add_le_add_left (by decide) _) (Nat.add_le_add_left (by decide) _) (kx _ 2 b (ld_mis (by decide) (by decide) hin.1 hin.2 (by decide)) (by decide) (Or.inr (Or.inl ⟨rfl, rfl⟩))))
      · have hout : i < 0 ∨ (ln : Int) ≤ i := by omega
        exact zn_getOut (t0 := 0) C hκ hκl hT hZ hM rfl rfl ri hout zy_getShort zc_getShort d hf hlo hsz (by omega) (by omega) (fun b => zx_widen (Nat.add_le_add_left (by decide) _) (Nat.add_le_add_left (by decide) _) (kx _ 3 b (ld_out (by decide) (by decide) hout) (by decide) (Or.inr (Or.inr (Or.inl ⟨rfl, rfl⟩)))))
    · by_cases hin : 0 ≤ i ∧ i < (ln : Int)
      · exact zn_getMis (t0 := 1) C hκ hκl hT hZ hM rfl rfl hin.1 hin.2 (show ln ≤ 2147483647 by omega) rfl zy_getShort zc_getShort d hf hlo hsz (by omega) (by omega) (fun b => zx_widen (Nat.add_le_add_left (by decide) _) (Nat.add_le_add_left (by decide) _) (kx _ 2 b (ld_mis (by decide) (by decide) hin.1 hin.2 (by decide)) (by decide) (Or.inr (Or.inl ⟨rfl, rfl⟩))))
      · have hout : i < 0 ∨ (ln : Int) ≤ i := by omega
        exact zn_getOut (t0 := 1) C hκ hκl hT hZ hM rfl rfl ri hout zy_getShort zc_getShort d hf hlo hsz (by omega) (by omega) (fun b => zx_widen (Nat.add_le_add_left (by decide) _) (Nat.add_le_add_left (by decide) _) (kx _ 3 b (ld_out (by decide) (by decide) hout) (by decide) (Or.inr (Or.inr (Or.inl ⟨rfl, rfl⟩)))))
    · by_cases hin : 0 ≤ i ∧ i < (ln : Int)
      · have hval : (.int (f i.toNat) : Value) = ldV 2 3 (v i.toNat) := by show Value.int (f i.toNat) = ldV _ _ _; rw [r3 i.toNat (by omega)]; rfl
        exact zn_getOk (v' := .int (f i.toNat)) (t0 := 2) C hκ hκl q hM rfl rfl hin.1 hin.2 (show ln ≤ 2147483647 by omega) rfl rfl zy_getShort zc_getShort d (by omega) (by omega) hsz hq (by rw [hval]; exact kk (ld_ok (by decide) (by decide) hin.1 hin.2 (by decide)))
      · have hout : i < 0 ∨ (ln : Int) ≤ i := by omega
        exact zn_getOut (t0 := 2) C hκ hκl hT hZ hM rfl rfl ri hout zy_getShort zc_getShort d hf hlo hsz (by omega) (by omega) (fun b => zx_widen (Nat.add_le_add_left (by decide) _) (Nat.add_le_add_left (by decide) _) (kx _ 3 b (ld_out (by decide) (by decide) hout) (by decide) (Or.inr (Or.inr (Or.inl ⟨rfl, rfl⟩)))))
    · by_cases hin : 0 ≤ i ∧ i < (ln : Int)
      · have hval : (.int (f i.toNat) : Value) = ldV 3 3 (v i.toNat) := by show Value.int (f i.toNat) = ldV _ _ _; rw [r3 i.toNat (by omega)]; rfl
        exact zn_getOk (v' := .int (f i.toNat)) (t0 := 3) C hκ hκl q hM rfl rfl hin.1 hin.2 (show ln ≤ 2147483647 by omega) rfl rfl zy_getShort zc_getShort d (by omega) (by omega) hsz hq (by rw [hval]; exact kk (ld_ok (by decide) (by decide) hin.1 hin.2 (by decide)))
      · have hout : i < 0 ∨ (ln : Int) ≤ i := by omega
        exact zn_getOut (t0 := 3) C hκ hκl hT hZ hM rfl rfl ri hout zy_getShort zc_getShort d hf hlo hsz (by omega) (by omega) (fun b => zx_widen (Nat.add_le_add_left (by decide) _) (Nat.add_le_add_left (by decide) _) (kx _ 3 b (ld_out (by decide) (by decide) hout) (by decide) (Or.inr (Or.inr (Or.inl ⟨rfl, rfl⟩)))))
    · by_cases hin : 0 ≤ i ∧ i < (ln : Int)
      · exact zn_getMis (t0 := 4) C hκ hκl hT hZ hM rfl rfl hin.1 hin.2 (show ln ≤ 2147483647 by omega) rfl zy_getShort zc_getShort d hf hlo hsz (by omega) (by omega) (fun b => zx_widen (Nat.add_le_add_left (by decide) _) (Nat.add_le_add_left (by decide) _) (kx _ 2 b (ld_mis (by decide) (by decide) hin.1 hin.2 (by decide)) (by decide) (Or.inr (Or.inl ⟨rfl, rfl⟩))))
      · have hout : i < 0 ∨ (ln : Int) ≤ i := by omega
        exact zn_getOut (t0 := 4) C hκ hκl hT hZ hM rfl rfl ri hout zy_getShort zc_getShort d hf hlo hsz (by omega) (by omega) (fun b => zx_widen (Nat.add_le_add_left (by decide) _) (Nat.add_le_add_left (by decide) _) (kx _ 3 b (ld_out (by decide) (by decide) hout) (by decide) (Or.inr (Or.inr (Or.inl ⟨rfl, rfl⟩)))))
  · subst r1
    by_cases hin : 0 ≤ i ∧ i < (ln : Int)
    · exact zn_getMis (t0 := 5) C hκ hκl hT hZ hM rfl rfl hin.1 hin.2 (show ln ≤ 2147483647 by omega) rfl zy_getShort zc_getShort d hf hlo hsz (by omega) (by omega) (fun b => zx_widen (Nat.add_le_add_left (by decide) _) (Nat.add_le_add_left (by decide) _) (kx _ 2 b (ld_mis (by decide) (by decide) hin.1 hin.2 (by decide)) (by decide) (Or.inr (Or.inl ⟨rfl, rfl⟩))))
    · have hout : i < 0 ∨ (ln : Int) ≤ i := by omega
      exact zn_getOut (t0 := 5) C hκ hκl hT hZ hM rfl rfl ri hout zy_getShort zc_getShort d hf hlo hsz (by omega) (by omega) (fun b => zx_widen (Nat.add_le_add_left (by decide) _) (Nat.add_le_add_left (by decide) _) (kx _ 3 b (ld_out (by decide) (by decide) hout) (by decide) (Or.inr (Or.inr (Or.inl ⟨rfl, rfl⟩)))))
  · subst r1
    by_cases hin : 0 ≤ i ∧ i < (ln : Int)
    · exact zn_getMis (t0 := 6) C hκ hκl hT hZ hM rfl rfl hin.1 hin.2 (show ln ≤ 2147483647 by omega) rfl zy_getShort zc_getShort d hf hlo hsz (by omega) (by omega) (fun b => zx_widen (Nat.add_le_add_left (by decide) _) (Nat.add_le_add_left (by decide) _) (kx _ 2 b (ld_mis (by decide) (by decide) hin.1 hin.2 (by decide)) (by decide) (Or.inr (Or.inl ⟨rfl, rfl⟩))))
    · have hout : i < 0 ∨ (ln : Int) ≤ i := by omega
      exact zn_getOut (t0 := 6) C hκ hκl hT hZ hM rfl rfl ri hout zy_getShort zc_getShort d hf hlo hsz (by omega) (by omega) (fun b => zx_widen (Nat.add_le_add_left (by decide) _) (Nat.add_le_add_left (by decide) _) (kx _ 3 b (ld_out (by decide) (by decide) hout) (by decide) (Or.inr (Or.inr (Or.inl ⟨rfl, rfl⟩)))))
  · subst r1
    by_cases hin : 0 ≤ i ∧ i < (ln : Int)
    · exact zn_getMis (t0 := 7) C hκ hκl hT hZ hM rfl rfl hin.1 hin.2 (show ln ≤ 2147483647 by omega) rfl zy_getShort zc_getShort d hf hlo hsz (by omega) (by omega) (fun b => zx_widen (Nat.add_le_add_left (by decide) _) (Nat.add_le_add_left (by decide) _) (kx _ 2 b (ld_mis (by decide) (by decide) hin.1 hin.2 (by decide)) (by decide) (Or.inr (Or.inl ⟨rfl, rfl⟩))))
    · have hout : i < 0 ∨ (ln : Int) ≤ i := by omega
      exact zn_getOut (t0 := 7) C hκ hκl hT hZ hM rfl rfl ri hout zy_getShort zc_getShort d hf hlo hsz (by omega) (by omega) (fun b => zx_widen (Nat.add_le_add_left (by decide) _) (Nat.add_le_add_left (by decide) _) (kx _ 3 b (ld_out (by decide) (by decide) hout) (by decide) (Or.inr (Or.inr (Or.inl ⟨rfl, rfl⟩)))))
  · have hx9 : xcA θ w t = θ.2.1 10 ∨ xcA θ w t = θ.2.1 13 ∨ xcA θ w t = θ.2.1 12 := by unfold xcA; split; exact Or.inl rfl; split; exact Or.inr (Or.inl rfl); exact Or.inr (Or.inr rfl)
    rcases hx9 with hx9 | hx9 | hx9 <;> rw [hx9] at hM
    · exact zn_getRef (t0 := 10) C hκ hκl hT hZ hM rfl rfl zy_getShort zc_getShort d hf hlo hsz (by omega) (by omega) (fun b => zx_widen (Nat.add_le_add_left (by decide) _) (Nat.add_le_add_left (by decide) _) (kx _ 2 b (ld_ref (by decide) r1) (by decide) (Or.inr (Or.inl ⟨rfl, rfl⟩))))
    · exact zn_getRef (t0 := 13) C hκ hκl hT hZ hM rfl rfl zy_getShort zc_getShort d hf hlo hsz (by omega) (by omega) (fun b => zx_widen (Nat.add_le_add_left (by decide) _) (Nat.add_le_add_left (by decide) _) (kx _ 2 b (ld_ref (by decide) r1) (by decide) (Or.inr (Or.inl ⟨rfl, rfl⟩))))
    · exact zn_getRef (t0 := 12) C hκ hκl hT hZ hM rfl rfl zy_getShort zc_getShort d hf hlo hsz (by omega) (by omega) (fun b => zx_widen (Nat.add_le_add_left (by decide) _) (Nat.add_le_add_left (by decide) _) (kx _ 2 b (ld_ref (by decide) r1) (by decide) (Or.inr (Or.inl ⟨rfl, rfl⟩))))
theorem x_ld4 (C : ZC κ "ReflectMirror" nm cc nL ret rm P) (hκ : κ.1 = θ) (hκl : κ.2.2.1 = l) (hT : zTb θ) (hZ : zTx θ l) (q : Nat) (hM : M a = some e) (hr : xRow θ σ w t ln v e) (hv : ∀ j : Nat, j < ln → xVok t (v j)) (hln : ln ≤ 1000) (ri : inR i) (d : decode cc pc = .ok (.invokestatic 93, 3)) (hf : 9 ≤ rm.frames) (hlo : 10250 ≤ rm.locals) (hsz : (rest.map fun v => v.category).sum ≤ 8) (hce : n + 3 ≤ rm.cells) (hsl : k + 210 ≤ rm.slots) (hq : pc + 3 = q) (kk : ldE t ln i 4 = 0 → Z κ (zP θ M N) n k q lv (ldV t 4 (v i.toNat) :: rest)) (kx : ∀ (E : String) (c : Int) (b : Nat), ldE t ln i 4 = c → c ≠ 0 → xEz E c → zX κ (zP θ M N) (n + 3) (k + 210) pc lv b E) : Z κ (zP θ M N) n k pc lv (.int (iI i) :: .ref a :: rest) := by
  rcases hr with ⟨r1, r2, f, rfl, r3⟩ | ⟨r1, f, rfl, r3⟩ | ⟨r1, f, rfl, r3⟩ | ⟨r1, f, rfl, r3⟩ | ⟨r1, f, rfl, r3⟩
  · rcases (show t = 0 ∨ t = 1 ∨ t = 2 ∨ t = 3 ∨ t = 4 by omega) with rfl | rfl | rfl | rfl | rfl
    · by_cases hin : 0 ≤ i ∧ i < (ln : Int)
      · exact zn_getMis (t0 := 0) C hκ hκl hT hZ hM rfl rfl hin.1 hin.2 (show ln ≤ 2147483647 by omega) rfl zy_getInt zc_getInt d hf hlo hsz (by omega) (by omega) (fun b => zx_widen (Nat.add_le_add_left (by decide) _) (Nat.add_le_add_left (by decide) _) (kx _ 2 b (ld_mis (by decide) (by decide) hin.1 hin.2 (by decide)) (by decide) (Or.inr (Or.inl ⟨rfl, rfl⟩))))
      · have hout : i < 0 ∨ (ln : Int) ≤ i := by omega
        exact zn_getOut (t0 := 0) C hκ hκl hT hZ hM rfl rfl ri hout zy_getInt zc_getInt d hf hlo hsz (by omega) (by omega) (fun b => zx_widen (Nat.add_le_add_left (by decide) _) (Nat.add_le_add_left (by decide) _) (kx _ 3 b (ld_out (by decide) (by decide) hout) (by decide) (Or.inr (Or.inr (Or.inl ⟨rfl, rfl⟩)))))
    · by_cases hin : 0 ≤ i ∧ i < (ln : Int)
      · have hval : (.int (f i.toNat) : Value) = ldV 1 4 (v i.toNat) := by show Value.int (f i.toNat) = ldV _ _ _; rw [r3 i.toNat (by omega)]; rfl
        exact zn_getOk (v' := .int (f i.toNat)) (t0 := 1) C hκ hκl q hM rfl rfl hin.1 hin.2 (show ln ≤ 2147483647 by omega) rfl rfl zy_getInt zc_getInt d (by omega) (by omega) hsz hq (by rw [hval]; exact kk (ld_ok (by decide) (by decide) hin.1 hin.2 (by decide)))
      · have hout : i < 0 ∨ (ln : Int) ≤ i := by omega
        exact zn_getOut (t0 := 1) C hκ hκl hT hZ hM rfl rfl ri hout zy_getInt zc_getInt d hf hlo hsz (by omega) (by omega) (fun b => zx_widen (Nat.add_le_add_left (by decide) _) (Nat.add_le_add_left (by decide) _) (kx _ 3 b (ld_out (by decide) (by decide) hout) (by decide) (Or.inr (Or.inr (Or.inl ⟨rfl, rfl⟩)))))
    · by_cases hin : 0 ≤ i ∧ i < (ln : Int)
      · have hval : (.int (f i.toNat) : Value) = ldV 2 4 (v i.toNat) := by show Value.int (f i.toNat) = ldV _ _ _; rw [r3 i.toNat (by omega)]; rfl
        exact zn_getOk (v' := .int (f i.toNat)) (t0 := 2) C hκ hκl q hM rfl rfl hin.1 hin.2 (show ln ≤ 2147483647 by omega) rfl rfl zy_getInt zc_getInt d (by omega) (by omega) hsz hq (by rw [hval]; exact kk (ld_ok (by decide) (by decide) hin.1 hin.2 (by decide)))
      · have hout : i < 0 ∨ (ln : Int) ≤ i := by omega
        exact zn_getOut (t0 := 2) C hκ hκl hT hZ hM rfl rfl ri hout zy_getInt zc_getInt d hf hlo hsz (by omega) (by omega) (fun b => zx_widen (Nat.add_le_add_left (by decide) _) (Nat.add_le_add_left (by decide) _) (kx _ 3 b (ld_out (by decide) (by decide) hout) (by decide) (Or.inr (Or.inr (Or.inl ⟨rfl, rfl⟩)))))
    · by_cases hin : 0 ≤ i ∧ i < (ln : Int)
      · have hval : (.int (f i.toNat) : Value) = ldV 3 4 (v i.toNat) := by show Value.int (f i.toNat) = ldV _ _ _; rw [r3 i.toNat (by omega)]; rfl
        exact zn_getOk (v' := .int (f i.toNat)) (t0 := 3) C hκ hκl q hM rfl rfl hin.1 hin.2 (show ln ≤ 2147483647 by omega) rfl rfl zy_getInt zc_getInt d (by omega) (by omega) hsz hq (by rw [hval]; exact kk (ld_ok (by decide) (by decide) hin.1 hin.2 (by decide)))
      · have hout : i < 0 ∨ (ln : Int) ≤ i := by omega
        exact zn_getOut (t0 := 3) C hκ hκl hT hZ hM rfl rfl ri hout zy_getInt zc_getInt d hf hlo hsz (by omega) (by omega) (fun b => zx_widen (Nat.add_le_add_left (by decide) _) (Nat.add_le_add_left (by decide) _) (kx _ 3 b (ld_out (by decide) (by decide) hout) (by decide) (Or.inr (Or.inr (Or.inl ⟨rfl, rfl⟩)))))
    · by_cases hin : 0 ≤ i ∧ i < (ln : Int)
      · have hval : (.int (f i.toNat) : Value) = ldV 4 4 (v i.toNat) := by show Value.int (f i.toNat) = ldV _ _ _; rw [r3 i.toNat (by omega)]; rfl
        exact zn_getOk (v' := .int (f i.toNat)) (t0 := 4) C hκ hκl q hM rfl rfl hin.1 hin.2 (show ln ≤ 2147483647 by omega) rfl rfl zy_getInt zc_getInt d (by omega) (by omega) hsz hq (by rw [hval]; exact kk (ld_ok (by decide) (by decide) hin.1 hin.2 (by decide)))
      · have hout : i < 0 ∨ (ln : Int) ≤ i := by omega
        exact zn_getOut (t0 := 4) C hκ hκl hT hZ hM rfl rfl ri hout zy_getInt zc_getInt d hf hlo hsz (by omega) (by omega) (fun b => zx_widen (Nat.add_le_add_left (by decide) _) (Nat.add_le_add_left (by decide) _) (kx _ 3 b (ld_out (by decide) (by decide) hout) (by decide) (Or.inr (Or.inr (Or.inl ⟨rfl, rfl⟩)))))
  · subst r1
    by_cases hin : 0 ≤ i ∧ i < (ln : Int)
    · exact zn_getMis (t0 := 5) C hκ hκl hT hZ hM rfl rfl hin.1 hin.2 (show ln ≤ 2147483647 by omega) rfl zy_getInt zc_getInt d hf hlo hsz (by omega) (by omega) (fun b => zx_widen (Nat.add_le_add_left (by decide) _) (Nat.add_le_add_left (by decide) _) (kx _ 2 b (ld_mis (by decide) (by decide) hin.1 hin.2 (by decide)) (by decide) (Or.inr (Or.inl ⟨rfl, rfl⟩))))
    · have hout : i < 0 ∨ (ln : Int) ≤ i := by omega
      exact zn_getOut (t0 := 5) C hκ hκl hT hZ hM rfl rfl ri hout zy_getInt zc_getInt d hf hlo hsz (by omega) (by omega) (fun b => zx_widen (Nat.add_le_add_left (by decide) _) (Nat.add_le_add_left (by decide) _) (kx _ 3 b (ld_out (by decide) (by decide) hout) (by decide) (Or.inr (Or.inr (Or.inl ⟨rfl, rfl⟩)))))
  · subst r1
    by_cases hin : 0 ≤ i ∧ i < (ln : Int)
    · exact zn_getMis (t0 := 6) C hκ hκl hT hZ hM rfl rfl hin.1 hin.2 (show ln ≤ 2147483647 by omega) rfl zy_getInt zc_getInt d hf hlo hsz (by omega) (by omega) (fun b => zx_widen (Nat.add_le_add_left (by decide) _) (Nat.add_le_add_left (by decide) _) (kx _ 2 b (ld_mis (by decide) (by decide) hin.1 hin.2 (by decide)) (by decide) (Or.inr (Or.inl ⟨rfl, rfl⟩))))
    · have hout : i < 0 ∨ (ln : Int) ≤ i := by omega
      exact zn_getOut (t0 := 6) C hκ hκl hT hZ hM rfl rfl ri hout zy_getInt zc_getInt d hf hlo hsz (by omega) (by omega) (fun b => zx_widen (Nat.add_le_add_left (by decide) _) (Nat.add_le_add_left (by decide) _) (kx _ 3 b (ld_out (by decide) (by decide) hout) (by decide) (Or.inr (Or.inr (Or.inl ⟨rfl, rfl⟩)))))
  · subst r1
    by_cases hin : 0 ≤ i ∧ i < (ln : Int)
    · exact zn_getMis (t0 := 7) C hκ hκl hT hZ hM rfl rfl hin.1 hin.2 (show ln ≤ 2147483647 by omega) rfl zy_getInt zc_getInt d hf hlo hsz (by omega) (by omega) (fun b => zx_widen (Nat.add_le_add_left (by decide) _) (Nat.add_le_add_left (by decide) _) (kx _ 2 b (ld_mis (by decide) (by decide) hin.1 hin.2 (by decide)) (by decide) (Or.inr (Or.inl ⟨rfl, rfl⟩))))
    · have hout : i < 0 ∨ (ln : Int) ≤ i := by omega
      exact zn_getOut (t0 := 7) C hκ hκl hT hZ hM rfl rfl ri hout zy_getInt zc_getInt d hf hlo hsz (by omega) (by omega) (fun b => zx_widen (Nat.add_le_add_left (by decide) _) (Nat.add_le_add_left (by decide) _) (kx _ 3 b (ld_out (by decide) (by decide) hout) (by decide) (Or.inr (Or.inr (Or.inl ⟨rfl, rfl⟩)))))
  · have hx9 : xcA θ w t = θ.2.1 10 ∨ xcA θ w t = θ.2.1 13 ∨ xcA θ w t = θ.2.1 12 := by unfold xcA; split; exact Or.inl rfl; split; exact Or.inr (Or.inl rfl); exact Or.inr (Or.inr rfl)
    rcases hx9 with hx9 | hx9 | hx9 <;> rw [hx9] at hM
    · exact zn_getRef (t0 := 10) C hκ hκl hT hZ hM rfl rfl zy_getInt zc_getInt d hf hlo hsz (by omega) (by omega) (fun b => zx_widen (Nat.add_le_add_left (by decide) _) (Nat.add_le_add_left (by decide) _) (kx _ 2 b (ld_ref (by decide) r1) (by decide) (Or.inr (Or.inl ⟨rfl, rfl⟩))))
    · exact zn_getRef (t0 := 13) C hκ hκl hT hZ hM rfl rfl zy_getInt zc_getInt d hf hlo hsz (by omega) (by omega) (fun b => zx_widen (Nat.add_le_add_left (by decide) _) (Nat.add_le_add_left (by decide) _) (kx _ 2 b (ld_ref (by decide) r1) (by decide) (Or.inr (Or.inl ⟨rfl, rfl⟩))))
    · exact zn_getRef (t0 := 12) C hκ hκl hT hZ hM rfl rfl zy_getInt zc_getInt d hf hlo hsz (by omega) (by omega) (fun b => zx_widen (Nat.add_le_add_left (by decide) _) (Nat.add_le_add_left (by decide) _) (kx _ 2 b (ld_ref (by decide) r1) (by decide) (Or.inr (Or.inl ⟨rfl, rfl⟩))))
theorem x_ld5 (C : ZC κ "ReflectMirror" nm cc nL ret rm P) (hκ : κ.1 = θ) (hκl : κ.2.2.1 = l) (hT : zTb θ) (hZ : zTx θ l) (q : Nat) (hM : M a = some e) (hr : xRow θ σ w t ln v e) (hv : ∀ j : Nat, j < ln → xVok t (v j)) (hln : ln ≤ 1000) (ri : inR i) (d : decode cc pc = .ok (.invokestatic 97, 3)) (hf : 9 ≤ rm.frames) (hlo : 10250 ≤ rm.locals) (hsz : (rest.map fun v => v.category).sum ≤ 8) (hce : n + 3 ≤ rm.cells) (hsl : k + 210 ≤ rm.slots) (hq : pc + 3 = q) (kk : ldE t ln i 5 = 0 → Z κ (zP θ M N) n k q lv (ldV t 5 (v i.toNat) :: rest)) (kx : ∀ (E : String) (c : Int) (b : Nat), ldE t ln i 5 = c → c ≠ 0 → xEz E c → zX κ (zP θ M N) (n + 3) (k + 210) pc lv b E) : Z κ (zP θ M N) n k pc lv (.int (iI i) :: .ref a :: rest) := by
  rcases hr with ⟨r1, r2, f, rfl, r3⟩ | ⟨r1, f, rfl, r3⟩ | ⟨r1, f, rfl, r3⟩ | ⟨r1, f, rfl, r3⟩ | ⟨r1, f, rfl, r3⟩
  · rcases (show t = 0 ∨ t = 1 ∨ t = 2 ∨ t = 3 ∨ t = 4 by omega) with rfl | rfl | rfl | rfl | rfl
    · by_cases hin : 0 ≤ i ∧ i < (ln : Int)
      · exact zn_getMis (t0 := 0) C hκ hκl hT hZ hM rfl rfl hin.1 hin.2 (show ln ≤ 2147483647 by omega) rfl zy_getLong zc_getLong d hf hlo hsz (by omega) (by omega) (fun b => zx_widen (Nat.add_le_add_left (by decide) _) (Nat.add_le_add_left (by decide) _) (kx _ 2 b (ld_mis (by decide) (by decide) hin.1 hin.2 (by decide)) (by decide) (Or.inr (Or.inl ⟨rfl, rfl⟩))))
      · have hout : i < 0 ∨ (ln : Int) ≤ i := by omega
        exact zn_getOut (t0 := 0) C hκ hκl hT hZ hM rfl rfl ri hout zy_getLong zc_getLong d hf hlo hsz (by omega) (by omega) (fun b => zx_widen (Nat.add_le_add_left (by decide) _) (Nat.add_le_add_left (by decide) _) (kx _ 3 b (ld_out (by decide) (by decide) hout) (by decide) (Or.inr (Or.inr (Or.inl ⟨rfl, rfl⟩)))))
    · by_cases hin : 0 ≤ i ∧ i < (ln : Int)
      · have hval : (.long (Int32.toInt64 (f i.toNat)) : Value) = ldV 1 5 (v i.toNat) := by rw [r3 i.toNat (by omega), iI_i64 ((hv i.toNat (by omega)).2.1 (by decide) (by decide))]; rfl
        exact zn_getOk (v' := .long (Int32.toInt64 (f i.toNat))) (t0 := 1) C hκ hκl q hM rfl rfl hin.1 hin.2 (show ln ≤ 2147483647 by omega) rfl rfl zy_getLong zc_getLong d (by omega) (by omega) hsz hq (by rw [hval]; exact kk (ld_ok (by decide) (by decide) hin.1 hin.2 (by decide)))
      · have hout : i < 0 ∨ (ln : Int) ≤ i := by omega
        exact zn_getOut (t0 := 1) C hκ hκl hT hZ hM rfl rfl ri hout zy_getLong zc_getLong d hf hlo hsz (by omega) (by omega) (fun b => zx_widen (Nat.add_le_add_left (by decide) _) (Nat.add_le_add_left (by decide) _) (kx _ 3 b (ld_out (by decide) (by decide) hout) (by decide) (Or.inr (Or.inr (Or.inl ⟨rfl, rfl⟩)))))
    · by_cases hin : 0 ≤ i ∧ i < (ln : Int)
      · have hval : (.long (Int32.toInt64 (f i.toNat)) : Value) = ldV 2 5 (v i.toNat) := by rw [r3 i.toNat (by omega), iI_i64 ((hv i.toNat (by omega)).2.1 (by decide) (by decide))]; rfl
        exact zn_getOk (v' := .long (Int32.toInt64 (f i.toNat))) (t0 := 2) C hκ hκl q hM rfl rfl hin.1 hin.2 (show ln ≤ 2147483647 by omega) rfl rfl zy_getLong zc_getLong d (by omega) (by omega) hsz hq (by rw [hval]; exact kk (ld_ok (by decide) (by decide) hin.1 hin.2 (by decide)))
      · have hout : i < 0 ∨ (ln : Int) ≤ i := by omega
        exact zn_getOut (t0 := 2) C hκ hκl hT hZ hM rfl rfl ri hout zy_getLong zc_getLong d hf hlo hsz (by omega) (by omega) (fun b => zx_widen (Nat.add_le_add_left (by decide) _) (Nat.add_le_add_left (by decide) _) (kx _ 3 b (ld_out (by decide) (by decide) hout) (by decide) (Or.inr (Or.inr (Or.inl ⟨rfl, rfl⟩)))))
    · by_cases hin : 0 ≤ i ∧ i < (ln : Int)
      · have hval : (.long (Int32.toInt64 (f i.toNat)) : Value) = ldV 3 5 (v i.toNat) := by rw [r3 i.toNat (by omega), iI_i64 ((hv i.toNat (by omega)).2.1 (by decide) (by decide))]; rfl
        exact zn_getOk (v' := .long (Int32.toInt64 (f i.toNat))) (t0 := 3) C hκ hκl q hM rfl rfl hin.1 hin.2 (show ln ≤ 2147483647 by omega) rfl rfl zy_getLong zc_getLong d (by omega) (by omega) hsz hq (by rw [hval]; exact kk (ld_ok (by decide) (by decide) hin.1 hin.2 (by decide)))
      · have hout : i < 0 ∨ (ln : Int) ≤ i := by omega
        exact zn_getOut (t0 := 3) C hκ hκl hT hZ hM rfl rfl ri hout zy_getLong zc_getLong d hf hlo hsz (by omega) (by omega) (fun b => zx_widen (Nat.add_le_add_left (by decide) _) (Nat.add_le_add_left (by decide) _) (kx _ 3 b (ld_out (by decide) (by decide) hout) (by decide) (Or.inr (Or.inr (Or.inl ⟨rfl, rfl⟩)))))
    · by_cases hin : 0 ≤ i ∧ i < (ln : Int)
      · have hval : (.long (Int32.toInt64 (f i.toNat)) : Value) = ldV 4 5 (v i.toNat) := by rw [r3 i.toNat (by omega), iI_i64 ((hv i.toNat (by omega)).2.1 (by decide) (by decide))]; rfl
        exact zn_getOk (v' := .long (Int32.toInt64 (f i.toNat))) (t0 := 4) C hκ hκl q hM rfl rfl hin.1 hin.2 (show ln ≤ 2147483647 by omega) rfl rfl zy_getLong zc_getLong d (by omega) (by omega) hsz hq (by rw [hval]; exact kk (ld_ok (by decide) (by decide) hin.1 hin.2 (by decide)))
      · have hout : i < 0 ∨ (ln : Int) ≤ i := by omega
        exact zn_getOut (t0 := 4) C hκ hκl hT hZ hM rfl rfl ri hout zy_getLong zc_getLong d hf hlo hsz (by omega) (by omega) (fun b => zx_widen (Nat.add_le_add_left (by decide) _) (Nat.add_le_add_left (by decide) _) (kx _ 3 b (ld_out (by decide) (by decide) hout) (by decide) (Or.inr (Or.inr (Or.inl ⟨rfl, rfl⟩)))))
  · subst r1
    by_cases hin : 0 ≤ i ∧ i < (ln : Int)
    · have hval : (.long (f i.toNat) : Value) = ldV 5 5 (v i.toNat) := by rw [r3 i.toNat (by omega)]; rfl
      exact zn_getOk (v' := .long (f i.toNat)) (t0 := 5) C hκ hκl q hM rfl rfl hin.1 hin.2 (show ln ≤ 2147483647 by omega) rfl rfl zy_getLong zc_getLong d (by omega) (by omega) hsz hq (by rw [hval]; exact kk (ld_ok (by decide) (by decide) hin.1 hin.2 (by decide)))
    · have hout : i < 0 ∨ (ln : Int) ≤ i := by omega
      exact zn_getOut (t0 := 5) C hκ hκl hT hZ hM rfl rfl ri hout zy_getLong zc_getLong d hf hlo hsz (by omega) (by omega) (fun b => zx_widen (Nat.add_le_add_left (by decide) _) (Nat.add_le_add_left (by decide) _) (kx _ 3 b (ld_out (by decide) (by decide) hout) (by decide) (Or.inr (Or.inr (Or.inl ⟨rfl, rfl⟩)))))
  · subst r1
    by_cases hin : 0 ≤ i ∧ i < (ln : Int)
    · exact zn_getMis (t0 := 6) C hκ hκl hT hZ hM rfl rfl hin.1 hin.2 (show ln ≤ 2147483647 by omega) rfl zy_getLong zc_getLong d hf hlo hsz (by omega) (by omega) (fun b => zx_widen (Nat.add_le_add_left (by decide) _) (Nat.add_le_add_left (by decide) _) (kx _ 2 b (ld_mis (by decide) (by decide) hin.1 hin.2 (by decide)) (by decide) (Or.inr (Or.inl ⟨rfl, rfl⟩))))
    · have hout : i < 0 ∨ (ln : Int) ≤ i := by omega
      exact zn_getOut (t0 := 6) C hκ hκl hT hZ hM rfl rfl ri hout zy_getLong zc_getLong d hf hlo hsz (by omega) (by omega) (fun b => zx_widen (Nat.add_le_add_left (by decide) _) (Nat.add_le_add_left (by decide) _) (kx _ 3 b (ld_out (by decide) (by decide) hout) (by decide) (Or.inr (Or.inr (Or.inl ⟨rfl, rfl⟩)))))
  · subst r1
    by_cases hin : 0 ≤ i ∧ i < (ln : Int)
    · exact zn_getMis (t0 := 7) C hκ hκl hT hZ hM rfl rfl hin.1 hin.2 (show ln ≤ 2147483647 by omega) rfl zy_getLong zc_getLong d hf hlo hsz (by omega) (by omega) (fun b => zx_widen (Nat.add_le_add_left (by decide) _) (Nat.add_le_add_left (by decide) _) (kx _ 2 b (ld_mis (by decide) (by decide) hin.1 hin.2 (by decide)) (by decide) (Or.inr (Or.inl ⟨rfl, rfl⟩))))
    · have hout : i < 0 ∨ (ln : Int) ≤ i := by omega
      exact zn_getOut (t0 := 7) C hκ hκl hT hZ hM rfl rfl ri hout zy_getLong zc_getLong d hf hlo hsz (by omega) (by omega) (fun b => zx_widen (Nat.add_le_add_left (by decide) _) (Nat.add_le_add_left (by decide) _) (kx _ 3 b (ld_out (by decide) (by decide) hout) (by decide) (Or.inr (Or.inr (Or.inl ⟨rfl, rfl⟩)))))
  · have hx9 : xcA θ w t = θ.2.1 10 ∨ xcA θ w t = θ.2.1 13 ∨ xcA θ w t = θ.2.1 12 := by unfold xcA; split; exact Or.inl rfl; split; exact Or.inr (Or.inl rfl); exact Or.inr (Or.inr rfl)
    rcases hx9 with hx9 | hx9 | hx9 <;> rw [hx9] at hM
    · exact zn_getRef (t0 := 10) C hκ hκl hT hZ hM rfl rfl zy_getLong zc_getLong d hf hlo hsz (by omega) (by omega) (fun b => zx_widen (Nat.add_le_add_left (by decide) _) (Nat.add_le_add_left (by decide) _) (kx _ 2 b (ld_ref (by decide) r1) (by decide) (Or.inr (Or.inl ⟨rfl, rfl⟩))))
    · exact zn_getRef (t0 := 13) C hκ hκl hT hZ hM rfl rfl zy_getLong zc_getLong d hf hlo hsz (by omega) (by omega) (fun b => zx_widen (Nat.add_le_add_left (by decide) _) (Nat.add_le_add_left (by decide) _) (kx _ 2 b (ld_ref (by decide) r1) (by decide) (Or.inr (Or.inl ⟨rfl, rfl⟩))))
    · exact zn_getRef (t0 := 12) C hκ hκl hT hZ hM rfl rfl zy_getLong zc_getLong d hf hlo hsz (by omega) (by omega) (fun b => zx_widen (Nat.add_le_add_left (by decide) _) (Nat.add_le_add_left (by decide) _) (kx _ 2 b (ld_ref (by decide) r1) (by decide) (Or.inr (Or.inl ⟨rfl, rfl⟩))))
theorem x_ld6 (C : ZC κ "ReflectMirror" nm cc nL ret rm P) (hκ : κ.1 = θ) (hκl : κ.2.2.1 = l) (hT : zTb θ) (hZ : zTx θ l) (q : Nat) (hM : M a = some e) (hr : xRow θ σ w t ln v e) (hv : ∀ j : Nat, j < ln → xVok t (v j)) (hln : ln ≤ 1000) (ri : inR i) (d : decode cc pc = .ok (.invokestatic 101, 3)) (hf : 9 ≤ rm.frames) (hlo : 10250 ≤ rm.locals) (hsz : (rest.map fun v => v.category).sum ≤ 8) (hce : n + 3 ≤ rm.cells) (hsl : k + 210 ≤ rm.slots) (hq : pc + 3 = q) (kk : ldE t ln i 6 = 0 → Z κ (zP θ M N) n k q lv (ldV t 6 (v i.toNat) :: rest)) (kx : ∀ (E : String) (c : Int) (b : Nat), ldE t ln i 6 = c → c ≠ 0 → xEz E c → zX κ (zP θ M N) (n + 3) (k + 210) pc lv b E) : Z κ (zP θ M N) n k pc lv (.int (iI i) :: .ref a :: rest) := by
  rcases hr with ⟨r1, r2, f, rfl, r3⟩ | ⟨r1, f, rfl, r3⟩ | ⟨r1, f, rfl, r3⟩ | ⟨r1, f, rfl, r3⟩ | ⟨r1, f, rfl, r3⟩
  · rcases (show t = 0 ∨ t = 1 ∨ t = 2 ∨ t = 3 ∨ t = 4 by omega) with rfl | rfl | rfl | rfl | rfl
    · by_cases hin : 0 ≤ i ∧ i < (ln : Int)
      · exact zn_getMis (t0 := 0) C hκ hκl hT hZ hM rfl rfl hin.1 hin.2 (show ln ≤ 2147483647 by omega) rfl zy_getFloat zc_getFloat d hf hlo hsz (by omega) (by omega) (fun b => zx_widen (Nat.add_le_add_left (by decide) _) (Nat.add_le_add_left (by decide) _) (kx _ 2 b (ld_mis (by decide) (by decide) hin.1 hin.2 (by decide)) (by decide) (Or.inr (Or.inl ⟨rfl, rfl⟩))))
      · have hout : i < 0 ∨ (ln : Int) ≤ i := by omega
        exact zn_getOut (t0 := 0) C hκ hκl hT hZ hM rfl rfl ri hout zy_getFloat zc_getFloat d hf hlo hsz (by omega) (by omega) (fun b => zx_widen (Nat.add_le_add_left (by decide) _) (Nat.add_le_add_left (by decide) _) (kx _ 3 b (ld_out (by decide) (by decide) hout) (by decide) (Or.inr (Or.inr (Or.inl ⟨rfl, rfl⟩)))))
    · by_cases hin : 0 ≤ i ∧ i < (ln : Int)
      · have hval : (.float (FP.i2f (f i.toNat)) : Value) = ldV 1 6 (v i.toNat) := by rw [r3 i.toNat (by omega), i2f_l2f ((hv i.toNat (by omega)).2.1 (by decide) (by decide))]; show Value.float _ = Value.float (U32 (wdL _ 1 6)); rw [wdl_6 (by decide)]
        exact zn_getOk (v' := .float (FP.i2f (f i.toNat))) (t0 := 1) C hκ hκl q hM rfl rfl hin.1 hin.2 (show ln ≤ 2147483647 by omega) rfl rfl zy_getFloat zc_getFloat d (by omega) (by omega) hsz hq (by rw [hval]; exact kk (ld_ok (by decide) (by decide) hin.1 hin.2 (by decide)))
      · have hout : i < 0 ∨ (ln : Int) ≤ i := by omega
        exact zn_getOut (t0 := 1) C hκ hκl hT hZ hM rfl rfl ri hout zy_getFloat zc_getFloat d hf hlo hsz (by omega) (by omega) (fun b => zx_widen (Nat.add_le_add_left (by decide) _) (Nat.add_le_add_left (by decide) _) (kx _ 3 b (ld_out (by decide) (by decide) hout) (by decide) (Or.inr (Or.inr (Or.inl ⟨rfl, rfl⟩)))))
    · by_cases hin : 0 ≤ i ∧ i < (ln : Int)
      · have hval : (.float (FP.i2f (f i.toNat)) : Value) = ldV 2 6 (v i.toNat) := by rw [r3 i.toNat (by omega), i2f_l2f ((hv i.toNat (by omega)).2.1 (by decide) (by decide))]; show Value.float _ = Value.float (U32 (wdL _ 2 6)); rw [wdl_6 (by decide)]
        exact zn_getOk (v' := .float (FP.i2f (f i.toNat))) (t0 := 2) C hκ hκl q hM rfl rfl hin.1 hin.2 (show ln ≤ 2147483647 by omega) rfl rfl zy_getFloat zc_getFloat d (by omega) (by omega) hsz hq (by rw [hval]; exact kk (ld_ok (by decide) (by decide) hin.1 hin.2 (by decide)))
      · have hout : i < 0 ∨ (ln : Int) ≤ i := by omega
        exact zn_getOut (t0 := 2) C hκ hκl hT hZ hM rfl rfl ri hout zy_getFloat zc_getFloat d hf hlo hsz (by omega) (by omega) (fun b => zx_widen (Nat.add_le_add_left (by decide) _) (Nat.add_le_add_left (by decide) _) (kx _ 3 b (ld_out (by decide) (by decide) hout) (by decide) (Or.inr (Or.inr (Or.inl ⟨rfl, rfl⟩)))))
    · by_cases hin : 0 ≤ i ∧ i < (ln : Int)
      · have hval : (.float (FP.i2f (f i.toNat)) : Value) = ldV 3 6 (v i.toNat) := by rw [r3 i.toNat (by omega), i2f_l2f ((hv i.toNat (by omega)).2.1 (by decide) (by decide))]; show Value.float _ = Value.float (U32 (wdL _ 3 6)); rw [wdl_6 (by decide)]
        exact zn_getOk (v' := .float (FP.i2f (f i.toNat))) (t0 := 3) C hκ hκl q hM rfl rfl hin.1 hin.2 (show ln ≤ 2147483647 by omega) rfl rfl zy_getFloat zc_getFloat d (by omega) (by omega) hsz hq (by rw [hval]; exact kk (ld_ok (by decide) (by decide) hin.1 hin.2 (by decide)))
      · have hout : i < 0 ∨ (ln : Int) ≤ i := by omega
        exact zn_getOut (t0 := 3) C hκ hκl hT hZ hM rfl rfl ri hout zy_getFloat zc_getFloat d hf hlo hsz (by omega) (by omega) (fun b => zx_widen (Nat.add_le_add_left (by decide) _) (Nat.add_le_add_left (by decide) _) (kx _ 3 b (ld_out (by decide) (by decide) hout) (by decide) (Or.inr (Or.inr (Or.inl ⟨rfl, rfl⟩)))))
    · by_cases hin : 0 ≤ i ∧ i < (ln : Int)
      · have hval : (.float (FP.i2f (f i.toNat)) : Value) = ldV 4 6 (v i.toNat) := by rw [r3 i.toNat (by omega), i2f_l2f ((hv i.toNat (by omega)).2.1 (by decide) (by decide))]; show Value.float _ = Value.float (U32 (wdL _ 4 6)); rw [wdl_6 (by decide)]
        exact zn_getOk (v' := .float (FP.i2f (f i.toNat))) (t0 := 4) C hκ hκl q hM rfl rfl hin.1 hin.2 (show ln ≤ 2147483647 by omega) rfl rfl zy_getFloat zc_getFloat d (by omega) (by omega) hsz hq (by rw [hval]; exact kk (ld_ok (by decide) (by decide) hin.1 hin.2 (by decide)))
      · have hout : i < 0 ∨ (ln : Int) ≤ i := by omega
        exact zn_getOut (t0 := 4) C hκ hκl hT hZ hM rfl rfl ri hout zy_getFloat zc_getFloat d hf hlo hsz (by omega) (by omega) (fun b => zx_widen (Nat.add_le_add_left (by decide) _) (Nat.add_le_add_left (by decide) _) (kx _ 3 b (ld_out (by decide) (by decide) hout) (by decide) (Or.inr (Or.inr (Or.inl ⟨rfl, rfl⟩)))))
  · subst r1
    by_cases hin : 0 ≤ i ∧ i < (ln : Int)
    · have hval : (.float (FP.l2f (f i.toNat)) : Value) = ldV 5 6 (v i.toNat) := by rw [r3 i.toNat (by omega)]; show Value.float _ = Value.float (U32 (wdL _ 5 6)); rw [wdl_6 (by decide)]
      exact zn_getOk (v' := .float (FP.l2f (f i.toNat))) (t0 := 5) C hκ hκl q hM rfl rfl hin.1 hin.2 (show ln ≤ 2147483647 by omega) rfl rfl zy_getFloat zc_getFloat d (by omega) (by omega) hsz hq (by rw [hval]; exact kk (ld_ok (by decide) (by decide) hin.1 hin.2 (by decide)))
    · have hout : i < 0 ∨ (ln : Int) ≤ i := by omega
      exact zn_getOut (t0 := 5) C hκ hκl hT hZ hM rfl rfl ri hout zy_getFloat zc_getFloat d hf hlo hsz (by omega) (by omega) (fun b => zx_widen (Nat.add_le_add_left (by decide) _) (Nat.add_le_add_left (by decide) _) (kx _ 3 b (ld_out (by decide) (by decide) hout) (by decide) (Or.inr (Or.inr (Or.inl ⟨rfl, rfl⟩)))))
  · subst r1
    by_cases hin : 0 ≤ i ∧ i < (ln : Int)
    · have hval : (.float (f i.toNat) : Value) = ldV 6 6 (v i.toNat) := by rw [r3 i.toNat (by omega)]; show Value.float (U32 _) = Value.float (U32 (wdL _ 6 6)); rw [wdl_same]
      exact zn_getOk (v' := .float (f i.toNat)) (t0 := 6) C hκ hκl q hM rfl rfl hin.1 hin.2 (show ln ≤ 2147483647 by omega) rfl rfl zy_getFloat zc_getFloat d (by omega) (by omega) hsz hq (by rw [hval]; exact kk (ld_ok (by decide) (by decide) hin.1 hin.2 (by decide)))
    · have hout : i < 0 ∨ (ln : Int) ≤ i := by omega
      exact zn_getOut (t0 := 6) C hκ hκl hT hZ hM rfl rfl ri hout zy_getFloat zc_getFloat d hf hlo hsz (by omega) (by omega) (fun b => zx_widen (Nat.add_le_add_left (by decide) _) (Nat.add_le_add_left (by decide) _) (kx _ 3 b (ld_out (by decide) (by decide) hout) (by decide) (Or.inr (Or.inr (Or.inl ⟨rfl, rfl⟩)))))
  · subst r1
    by_cases hin : 0 ≤ i ∧ i < (ln : Int)
    · exact zn_getMis (t0 := 7) C hκ hκl hT hZ hM rfl rfl hin.1 hin.2 (show ln ≤ 2147483647 by omega) rfl zy_getFloat zc_getFloat d hf hlo hsz (by omega) (by omega) (fun b => zx_widen (Nat.add_le_add_left (by decide) _) (Nat.add_le_add_left (by decide) _) (kx _ 2 b (ld_mis (by decide) (by decide) hin.1 hin.2 (by decide)) (by decide) (Or.inr (Or.inl ⟨rfl, rfl⟩))))
    · have hout : i < 0 ∨ (ln : Int) ≤ i := by omega
      exact zn_getOut (t0 := 7) C hκ hκl hT hZ hM rfl rfl ri hout zy_getFloat zc_getFloat d hf hlo hsz (by omega) (by omega) (fun b => zx_widen (Nat.add_le_add_left (by decide) _) (Nat.add_le_add_left (by decide) _) (kx _ 3 b (ld_out (by decide) (by decide) hout) (by decide) (Or.inr (Or.inr (Or.inl ⟨rfl, rfl⟩)))))
  · have hx9 : xcA θ w t = θ.2.1 10 ∨ xcA θ w t = θ.2.1 13 ∨ xcA θ w t = θ.2.1 12 := by unfold xcA; split; exact Or.inl rfl; split; exact Or.inr (Or.inl rfl); exact Or.inr (Or.inr rfl)
    rcases hx9 with hx9 | hx9 | hx9 <;> rw [hx9] at hM
    · exact zn_getRef (t0 := 10) C hκ hκl hT hZ hM rfl rfl zy_getFloat zc_getFloat d hf hlo hsz (by omega) (by omega) (fun b => zx_widen (Nat.add_le_add_left (by decide) _) (Nat.add_le_add_left (by decide) _) (kx _ 2 b (ld_ref (by decide) r1) (by decide) (Or.inr (Or.inl ⟨rfl, rfl⟩))))
    · exact zn_getRef (t0 := 13) C hκ hκl hT hZ hM rfl rfl zy_getFloat zc_getFloat d hf hlo hsz (by omega) (by omega) (fun b => zx_widen (Nat.add_le_add_left (by decide) _) (Nat.add_le_add_left (by decide) _) (kx _ 2 b (ld_ref (by decide) r1) (by decide) (Or.inr (Or.inl ⟨rfl, rfl⟩))))
    · exact zn_getRef (t0 := 12) C hκ hκl hT hZ hM rfl rfl zy_getFloat zc_getFloat d hf hlo hsz (by omega) (by omega) (fun b => zx_widen (Nat.add_le_add_left (by decide) _) (Nat.add_le_add_left (by decide) _) (kx _ 2 b (ld_ref (by decide) r1) (by decide) (Or.inr (Or.inl ⟨rfl, rfl⟩))))
theorem x_ld7 (C : ZC κ "ReflectMirror" nm cc nL ret rm P) (hκ : κ.1 = θ) (hκl : κ.2.2.1 = l) (hT : zTb θ) (hZ : zTx θ l) (q : Nat) (hM : M a = some e) (hr : xRow θ σ w t ln v e) (hv : ∀ j : Nat, j < ln → xVok t (v j)) (hln : ln ≤ 1000) (ri : inR i) (d : decode cc pc = .ok (.invokestatic 111, 3)) (hf : 9 ≤ rm.frames) (hlo : 10250 ≤ rm.locals) (hsz : (rest.map fun v => v.category).sum ≤ 8) (hce : n + 3 ≤ rm.cells) (hsl : k + 210 ≤ rm.slots) (hq : pc + 3 = q) (kk : ldE t ln i 7 = 0 → Z κ (zP θ M N) n k q lv (ldV t 7 (v i.toNat) :: rest)) (kx : ∀ (E : String) (c : Int) (b : Nat), ldE t ln i 7 = c → c ≠ 0 → xEz E c → zX κ (zP θ M N) (n + 3) (k + 210) pc lv b E) : Z κ (zP θ M N) n k pc lv (.int (iI i) :: .ref a :: rest) := by
  rcases hr with ⟨r1, r2, f, rfl, r3⟩ | ⟨r1, f, rfl, r3⟩ | ⟨r1, f, rfl, r3⟩ | ⟨r1, f, rfl, r3⟩ | ⟨r1, f, rfl, r3⟩
  · rcases (show t = 0 ∨ t = 1 ∨ t = 2 ∨ t = 3 ∨ t = 4 by omega) with rfl | rfl | rfl | rfl | rfl
    · by_cases hin : 0 ≤ i ∧ i < (ln : Int)
      · exact zn_getMis (t0 := 0) C hκ hκl hT hZ hM rfl rfl hin.1 hin.2 (show ln ≤ 2147483647 by omega) rfl zy_getDouble zc_getDouble d hf hlo hsz (by omega) (by omega) (fun b => zx_widen (Nat.add_le_add_left (by decide) _) (Nat.add_le_add_left (by decide) _) (kx _ 2 b (ld_mis (by decide) (by decide) hin.1 hin.2 (by decide)) (by decide) (Or.inr (Or.inl ⟨rfl, rfl⟩))))
      · have hout : i < 0 ∨ (ln : Int) ≤ i := by omega
        exact zn_getOut (t0 := 0) C hκ hκl hT hZ hM rfl rfl ri hout zy_getDouble zc_getDouble d hf hlo hsz (by omega) (by omega) (fun b => zx_widen (Nat.add_le_add_left (by decide) _) (Nat.add_le_add_left (by decide) _) (kx _ 3 b (ld_out (by decide) (by decide) hout) (by decide) (Or.inr (Or.inr (Or.inl ⟨rfl, rfl⟩)))))
    · by_cases hin : 0 ≤ i ∧ i < (ln : Int)
      · have hval : (.double (FP.i2d (f i.toNat)) : Value) = ldV 1 7 (v i.toNat) := by rw [r3 i.toNat (by omega), i2d_l2d ((hv i.toNat (by omega)).2.1 (by decide) (by decide))]; show Value.double _ = Value.double (U64 (wdL _ 1 7)); rw [wdl_7 (by decide)]
        exact zn_getOk (v' := .double (FP.i2d (f i.toNat))) (t0 := 1) C hκ hκl q hM rfl rfl hin.1 hin.2 (show ln ≤ 2147483647 by omega) rfl (awd1 rfl) zy_getDouble zc_getDouble d (by omega) (by omega) hsz hq (by rw [hval]; exact kk (ld_ok (by decide) (by decide) hin.1 hin.2 (by decide)))
      · have hout : i < 0 ∨ (ln : Int) ≤ i := by omega
        exact zn_getOut (t0 := 1) C hκ hκl hT hZ hM rfl rfl ri hout zy_getDouble zc_getDouble d hf hlo hsz (by omega) (by omega) (fun b => zx_widen (Nat.add_le_add_left (by decide) _) (Nat.add_le_add_left (by decide) _) (kx _ 3 b (ld_out (by decide) (by decide) hout) (by decide) (Or.inr (Or.inr (Or.inl ⟨rfl, rfl⟩)))))
    · by_cases hin : 0 ≤ i ∧ i < (ln : Int)
      · have hval : (.double (FP.i2d (f i.toNat)) : Value) = ldV 2 7 (v i.toNat) := by rw [r3 i.toNat (by omega), i2d_l2d ((hv i.toNat (by omega)).2.1 (by decide) (by decide))]; show Value.double _ = Value.double (U64 (wdL _ 2 7)); rw [wdl_7 (by decide)]
        exact zn_getOk (v' := .double (FP.i2d (f i.toNat))) (t0 := 2) C hκ hκl q hM rfl rfl hin.1 hin.2 (show ln ≤ 2147483647 by omega) rfl (awd1 rfl) zy_getDouble zc_getDouble d (by omega) (by omega) hsz hq (by rw [hval]; exact kk (ld_ok (by decide) (by decide) hin.1 hin.2 (by decide)))
      · have hout : i < 0 ∨ (ln : Int) ≤ i := by omega
        exact zn_getOut (t0 := 2) C hκ hκl hT hZ hM rfl rfl ri hout zy_getDouble zc_getDouble d hf hlo hsz (by omega) (by omega) (fun b => zx_widen (Nat.add_le_add_left (by decide) _) (Nat.add_le_add_left (by decide) _) (kx _ 3 b (ld_out (by decide) (by decide) hout) (by decide) (Or.inr (Or.inr (Or.inl ⟨rfl, rfl⟩)))))
    · by_cases hin : 0 ≤ i ∧ i < (ln : Int)
      · have hval : (.double (FP.i2d (f i.toNat)) : Value) = ldV 3 7 (v i.toNat) := by rw [r3 i.toNat (by omega), i2d_l2d ((hv i.toNat (by omega)).2.1 (by decide) (by decide))]; show Value.double _ = Value.double (U64 (wdL _ 3 7)); rw [wdl_7 (by decide)]
        exact zn_getOk (v' := .double (FP.i2d (f i.toNat))) (t0 := 3) C hκ hκl q hM rfl rfl hin.1 hin.2 (show ln ≤ 2147483647 by omega) rfl (awd1 rfl) zy_getDouble zc_getDouble d (by omega) (by omega) hsz hq (by rw [hval]; exact kk (ld_ok (by decide) (by decide) hin.1 hin.2 (by decide)))
      · have hout : i < 0 ∨ (ln : Int) ≤ i := by omega
        exact zn_getOut (t0 := 3) C hκ hκl hT hZ hM rfl rfl ri hout zy_getDouble zc_getDouble d hf hlo hsz (by omega) (by omega) (fun b => zx_widen (Nat.add_le_add_left (by decide) _) (Nat.add_le_add_left (by decide) _) (kx _ 3 b (ld_out (by decide) (by decide) hout) (by decide) (Or.inr (Or.inr (Or.inl ⟨rfl, rfl⟩)))))
    · by_cases hin : 0 ≤ i ∧ i < (ln : Int)
      · have hval : (.double (FP.i2d (f i.toNat)) : Value) = ldV 4 7 (v i.toNat) := by rw [r3 i.toNat (by omega), i2d_l2d ((hv i.toNat (by omega)).2.1 (by decide) (by decide))]; show Value.double _ = Value.double (U64 (wdL _ 4 7)); rw [wdl_7 (by decide)]
        exact zn_getOk (v' := .double (FP.i2d (f i.toNat))) (t0 := 4) C hκ hκl q hM rfl rfl hin.1 hin.2 (show ln ≤ 2147483647 by omega) rfl (awd1 rfl) zy_getDouble zc_getDouble d (by omega) (by omega) hsz hq (by rw [hval]; exact kk (ld_ok (by decide) (by decide) hin.1 hin.2 (by decide)))
      · have hout : i < 0 ∨ (ln : Int) ≤ i := by omega
        exact zn_getOut (t0 := 4) C hκ hκl hT hZ hM rfl rfl ri hout zy_getDouble zc_getDouble d hf hlo hsz (by omega) (by omega) (fun b => zx_widen (Nat.add_le_add_left (by decide) _) (Nat.add_le_add_left (by decide) _) (kx _ 3 b (ld_out (by decide) (by decide) hout) (by decide) (Or.inr (Or.inr (Or.inl ⟨rfl, rfl⟩)))))
  · subst r1
    by_cases hin : 0 ≤ i ∧ i < (ln : Int)
    · have hval : (.double (FP.l2d (f i.toNat)) : Value) = ldV 5 7 (v i.toNat) := by rw [r3 i.toNat (by omega)]; show Value.double _ = Value.double (U64 (wdL _ 5 7)); rw [wdl_7 (by decide)]
      exact zn_getOk (v' := .double (FP.l2d (f i.toNat))) (t0 := 5) C hκ hκl q hM rfl rfl hin.1 hin.2 (show ln ≤ 2147483647 by omega) rfl (awd1 rfl) zy_getDouble zc_getDouble d (by omega) (by omega) hsz hq (by rw [hval]; exact kk (ld_ok (by decide) (by decide) hin.1 hin.2 (by decide)))
    · have hout : i < 0 ∨ (ln : Int) ≤ i := by omega
      exact zn_getOut (t0 := 5) C hκ hκl hT hZ hM rfl rfl ri hout zy_getDouble zc_getDouble d hf hlo hsz (by omega) (by omega) (fun b => zx_widen (Nat.add_le_add_left (by decide) _) (Nat.add_le_add_left (by decide) _) (kx _ 3 b (ld_out (by decide) (by decide) hout) (by decide) (Or.inr (Or.inr (Or.inl ⟨rfl, rfl⟩)))))
  · subst r1
    by_cases hin : 0 ≤ i ∧ i < (ln : Int)
    · have hval : (.double (FP.f2d (f i.toNat)) : Value) = ldV 6 7 (v i.toNat) := by rw [r3 i.toNat (by omega)]; show Value.double _ = Value.double (U64 (wdL _ 6 7)); rw [wdl_67]
      exact zn_getOk (v' := .double (FP.f2d (f i.toNat))) (t0 := 6) C hκ hκl q hM rfl rfl hin.1 hin.2 (show ln ≤ 2147483647 by omega) rfl (awd2 (by rw [r3 i.toNat (by omega)]; exact f2d_vf (U32_vg ((hv i.toNat (by omega)).2.2.2.2 rfl).2))) zy_getDouble zc_getDouble d (by omega) (by omega) hsz hq (by rw [hval]; exact kk (ld_ok (by decide) (by decide) hin.1 hin.2 (by decide)))
    · have hout : i < 0 ∨ (ln : Int) ≤ i := by omega
      exact zn_getOut (t0 := 6) C hκ hκl hT hZ hM rfl rfl ri hout zy_getDouble zc_getDouble d hf hlo hsz (by omega) (by omega) (fun b => zx_widen (Nat.add_le_add_left (by decide) _) (Nat.add_le_add_left (by decide) _) (kx _ 3 b (ld_out (by decide) (by decide) hout) (by decide) (Or.inr (Or.inr (Or.inl ⟨rfl, rfl⟩)))))
  · subst r1
    by_cases hin : 0 ≤ i ∧ i < (ln : Int)
    · have hval : (.double (f i.toNat) : Value) = ldV 7 7 (v i.toNat) := by rw [r3 i.toNat (by omega)]; show Value.double (U64 _) = Value.double (U64 (wdL _ 7 7)); rw [wdl_same]
      exact zn_getOk (v' := .double (f i.toNat)) (t0 := 7) C hκ hκl q hM rfl rfl hin.1 hin.2 (show ln ≤ 2147483647 by omega) rfl (awd1 rfl) zy_getDouble zc_getDouble d (by omega) (by omega) hsz hq (by rw [hval]; exact kk (ld_ok (by decide) (by decide) hin.1 hin.2 (by decide)))
    · have hout : i < 0 ∨ (ln : Int) ≤ i := by omega
      exact zn_getOut (t0 := 7) C hκ hκl hT hZ hM rfl rfl ri hout zy_getDouble zc_getDouble d hf hlo hsz (by omega) (by omega) (fun b => zx_widen (Nat.add_le_add_left (by decide) _) (Nat.add_le_add_left (by decide) _) (kx _ 3 b (ld_out (by decide) (by decide) hout) (by decide) (Or.inr (Or.inr (Or.inl ⟨rfl, rfl⟩)))))
  · have hx9 : xcA θ w t = θ.2.1 10 ∨ xcA θ w t = θ.2.1 13 ∨ xcA θ w t = θ.2.1 12 := by unfold xcA; split; exact Or.inl rfl; split; exact Or.inr (Or.inl rfl); exact Or.inr (Or.inr rfl)
    rcases hx9 with hx9 | hx9 | hx9 <;> rw [hx9] at hM
    · exact zn_getRef (t0 := 10) C hκ hκl hT hZ hM rfl rfl zy_getDouble zc_getDouble d hf hlo hsz (by omega) (by omega) (fun b => zx_widen (Nat.add_le_add_left (by decide) _) (Nat.add_le_add_left (by decide) _) (kx _ 2 b (ld_ref (by decide) r1) (by decide) (Or.inr (Or.inl ⟨rfl, rfl⟩))))
    · exact zn_getRef (t0 := 13) C hκ hκl hT hZ hM rfl rfl zy_getDouble zc_getDouble d hf hlo hsz (by omega) (by omega) (fun b => zx_widen (Nat.add_le_add_left (by decide) _) (Nat.add_le_add_left (by decide) _) (kx _ 2 b (ld_ref (by decide) r1) (by decide) (Or.inr (Or.inl ⟨rfl, rfl⟩))))
    · exact zn_getRef (t0 := 12) C hκ hκl hT hZ hM rfl rfl zy_getDouble zc_getDouble d hf hlo hsz (by omega) (by omega) (fun b => zx_widen (Nat.add_le_add_left (by decide) _) (Nat.add_le_add_left (by decide) _) (kx _ 2 b (ld_ref (by decide) r1) (by decide) (Or.inr (Or.inl ⟨rfl, rfl⟩))))
end XLD
