/-! ===== saves: what a row takes ===== -/
theorem fits_le {b lo hi : Int} (hb : inR b) (hl : inR lo) (hh : inR hi) (h : lo ≤ b ∧ b ≤ hi) : (decide (iI lo ≤ iI b) && decide (iI b ≤ iI hi)) = true := by
  simp only [Bool.and_eq_true, decide_eq_true_eq]
  exact ⟨Int32.le_iff_toInt_le.mpr (by rw [iI_toInt hb, iI_toInt hl]; exact h.1), Int32.le_iff_toInt_le.mpr (by rw [iI_toInt hb, iI_toInt hh]; exact h.2)⟩
theorem narZ {b : Int} (h : b = 0 ∨ b = 1) : narrow .boolean (.int (iI b)) = .int (iI b) ∧ fits .boolean (.int (iI b)) = true ∧ (iI b &&& 0xFF) = iI b := by rcases h with rfl | rfl <;> decide
theorem narB {b : Int} (h : -128 ≤ b ∧ b ≤ 127) : narrow .byte (.int (iI b)) = .int (iI b) ∧ fits .byte (.int (iI b)) = true := by
  refine ⟨?_, fits_le (lo := -128) (hi := 127) ⟨by omega, by omega⟩ ⟨by decide, by decide⟩ ⟨by decide, by decide⟩ h⟩
  show Value.int (iI b).toInt8.toInt32 = _
  rw [← iI_w8, ← w8_iff.mpr h]
theorem narS {b : Int} (h : -32768 ≤ b ∧ b ≤ 32767) : narrow .short (.int (iI b)) = .int (iI b) ∧ fits .short (.int (iI b)) = true := by
  refine ⟨?_, fits_le (lo := -32768) (hi := 32767) ⟨by omega, by omega⟩ ⟨by decide, by decide⟩ ⟨by decide, by decide⟩ h⟩
  show Value.int (iI b).toInt16.toInt32 = _
  rw [← iI_w16, ← w16_iff.mpr h]
theorem narC {b : Int} (h : 0 ≤ b ∧ b ≤ 65535) : narrow .char (.int (iI b)) = .int (iI b) ∧ fits .char (.int (iI b)) = true := by
  obtain ⟨q, rfl⟩ := Int.eq_ofNat_of_zero_le h.1
  have h1 : q < 65536 := by have := h.2; omega
  refine ⟨?_, fits_le (lo := 0) (hi := 65535) ⟨by omega, by omega⟩ ⟨by decide, by decide⟩ ⟨by decide, by decide⟩ h⟩
  show Value.int (iI q).toUInt32.toUInt16.toUInt32.toInt32 = _
  congr 1
  apply Int32.toBitVec_inj.mp
  apply BitVec.eq_of_toNat_eq
  have e1 : (iI (q : Int)).toBitVec.toNat = q := by
    show (BitVec.ofInt 32 (q : Int)).toNat = q
    rw [BitVec.toNat_ofInt]
    omega
  show ((((iI (q : Int)).toBitVec).setWidth 16).setWidth 32).toNat = _
  rw [BitVec.toNat_setWidth, BitVec.toNat_setWidth, e1]
  omega
def svE (t : Int) (ln : Nat) (i k : Int) : Int := if (k = 8 ∧ t < 8) ∨ (k ≠ 8 ∧ 8 ≤ t) then 2 else if i < 0 ∨ (ln : Int) ≤ i then 3 else if k ≠ 8 ∧ wdB k t = false then 2 else 0
theorem sv_ref {t i k : Int} {ln : Nat} (h1 : k ≠ 8) (h : 8 ≤ t) : svE t ln i k = 2 := if_pos (Or.inr ⟨h1, h⟩)
theorem sv_out {t i k : Int} {ln : Nat} (h1 : k ≠ 8) (h : t < 8) (h2 : i < 0 ∨ (ln : Int) ≤ i) : svE t ln i k = 3 := by unfold svE; rw [if_neg (by omega), if_pos h2]
theorem sv_mis {t i k : Int} {ln : Nat} (h1 : k ≠ 8) (h : t < 8) (h2 : 0 ≤ i) (h3 : i < (ln : Int)) (h4 : wdB k t = false) : svE t ln i k = 2 := by unfold svE; rw [if_neg (by omega), if_neg (by omega), if_pos ⟨h1, h4⟩]
theorem sv_ok {t i k : Int} {ln : Nat} (h1 : k ≠ 8) (h : t < 8) (h2 : 0 ≤ i) (h3 : i < (ln : Int)) (h4 : wdB k t = true) : svE t ln i k = 0 := by unfold svE; rw [if_neg (by omega), if_neg (by omega), if_neg (by rw [h4]; simp)]
def svU (v : Nat → Int) (i z : Int) : Nat → Int := fun j => if (j : Int) = i then z else v j
def sbV (k b : Int) : Value := if k ≤ 4 then .int (iI b) else if k = 5 then .long (lI b) else if k = 6 then .float (U32 b) else .double (U64 b)
theorem svu_at {α : Type} {f : Nat → α} {g : Int → α} {v : Nat → Int} {ln : Nat} {i z : Int} (h0 : 0 ≤ i) (h : ∀ j, j < ln → f j = g (v j)) {y : α} (hy : y = g z) : ∀ j, j < ln → va_up f i.toNat y j = g (svU v i z j) := fun j hj => by
  unfold va_up svU
  by_cases e : j = i.toNat
  · rw [if_pos e, if_pos (by omega)]; exact hy
  · rw [if_neg e, if_neg (by omega)]; exact h j hj

section XSV
variable {κ : zK} {nm : String} {cc : ByteArray} {nL : Nat} {ret : Option FieldType} {rm : Room} {P : Option Value → (Heap → Prop) → Prop} {n k pc : Nat} {lv : List (Nat × Value)} {st rest : List Value}
variable {θ : zTh} {l : Launch} {σ : xA} {w : mW} {M N : zMap} {a ln : Nat} {t i b : Int} {v : Nat → Int} {e : va_E}
theorem x_sv0 (C : ZC κ "ReflectMirror" nm cc nL ret rm P) (hκ : κ.1 = θ) (hκl : κ.2.2.1 = l) (hT : zTb θ) (hZ : zTx θ l) (q : Nat) (hM : M a = some e) (hr : xRow θ σ w t ln v e) (hb : xVok 0 b) (hln : ln ≤ 1000) (ri : inR i) (d : decode cc pc = .ok (.invokestatic 140, 3)) (hf : 9 ≤ rm.frames) (hlo : 10250 ≤ rm.locals) (hsz : (rest.map fun v => v.category).sum ≤ 8) (hce : n + 3 ≤ rm.cells) (hsl : k + 210 ≤ rm.slots) (hq : pc + 3 = q) (kk : ∀ e' : va_E, svE t ln i 0 = 0 → xRow θ σ w t ln (svU v i (wdL b 0 t)) e' → Z κ (zP θ (zup M a e') N) n k q lv rest) (kx : ∀ (E : String) (c : Int) (b : Nat), svE t ln i 0 = c → c ≠ 0 → xEz E c → zX κ (zP θ M N) (n + 3) (k + 210) pc lv b E) : Z κ (zP θ M N) n k pc lv (sbV 0 b :: .int (iI i) :: .ref a :: rest) := by
  rcases hr with ⟨r1, r2, f, rfl, r3⟩ | ⟨r1, f, rfl, r3⟩ | ⟨r1, f, rfl, r3⟩ | ⟨r1, f, rfl, r3⟩ | ⟨r1, f, rfl, r3⟩
  · rcases (show t = 0 ∨ t = 1 ∨ t = 2 ∨ t = 3 ∨ t = 4 by omega) with rfl | rfl | rfl | rfl | rfl
    · by_cases hin : 0 ≤ i ∧ i < (ln : Int)
      · have hnar : narrow .boolean (.int (iI b)) = .int (iI b) := (narZ (hb.1 rfl)).1
        have hval : (iI b) = iI (wdL b 0 0) := (by rw [show wdL b 0 0 = b from if_pos (by decide)])
        refine zn_setOk (v := sbV 0 b) (v' := .int (iI b)) (t0 := 0) C hκ hκl q (fun m9 h1 h2 => by simp [seenByNative, h1, h2, narrow, sbV, (narZ (hb.1 rfl)).2.2]) hM rfl rfl hin.1 hin.2 (show ln ≤ 2147483647 by omega) rfl rfl (by rw [hnar]; exact (narZ (hb.1 rfl)).2.1) (by rw [hnar]; exact trivial) zy_setBoolean zc_setBoolean d (by omega) (by omega) hsz hq ?_
        rw [hnar]
        exact kk _ (sv_ok (by decide) (by decide) hin.1 hin.2 (by decide)) (Or.inl ⟨by decide, by decide, _, rfl, svu_at hin.1 r3 hval⟩)
      · have hout : i < 0 ∨ (ln : Int) ≤ i := by omega
        exact zn_setOut (v := sbV 0 b) (t0 := 0) C hκ hκl hT hZ (fun m9 h1 h2 => by simp [seenByNative, h1, h2, narrow, sbV, (narZ (hb.1 rfl)).2.2]) hM rfl rfl ri hout zy_setBoolean zc_setBoolean d hf hlo hsz (by omega) (by omega) (fun b => zx_widen (Nat.add_le_add_left (by decide) _) (Nat.add_le_add_left (by decide) _) (kx _ 3 b (sv_out (by decide) (by decide) hout) (by decide) (Or.inr (Or.inr (Or.inl ⟨rfl, rfl⟩)))))
    · by_cases hin : 0 ≤ i ∧ i < (ln : Int)
      · exact zn_setMis (v := sbV 0 b) (t0 := 1) C hκ hκl hT hZ (fun m9 h1 h2 => by simp [seenByNative, h1, h2, narrow, sbV, (narZ (hb.1 rfl)).2.2]) hM rfl rfl hin.1 hin.2 (show ln ≤ 2147483647 by omega) rfl zy_setBoolean zc_setBoolean d hf hlo hsz (by omega) (by omega) (fun b => zx_widen (Nat.add_le_add_left (by decide) _) (Nat.add_le_add_left (by decide) _) (kx _ 2 b (sv_mis (by decide) (by decide) hin.1 hin.2 (by decide)) (by decide) (Or.inr (Or.inl ⟨rfl, rfl⟩))))
      · have hout : i < 0 ∨ (ln : Int) ≤ i := by omega
        exact zn_setOut (v := sbV 0 b) (t0 := 1) C hκ hκl hT hZ (fun m9 h1 h2 => by simp [seenByNative, h1, h2, narrow, sbV, (narZ (hb.1 rfl)).2.2]) hM rfl rfl ri hout zy_setBoolean zc_setBoolean d hf hlo hsz (by omega) (by omega) (fun b => zx_widen (Nat.add_le_add_left (by decide) _) (Nat.add_le_add_left (by decide) _) (kx _ 3 b (sv_out (by decide) (by decide) hout) (by decide) (Or.inr (Or.inr (Or.inl ⟨rfl, rfl⟩)))))
    · by_cases hin : 0 ≤ i ∧ i < (ln : Int)
      · exact zn_setMis (v := sbV 0 b) (t0 := 2) C hκ hκl hT hZ (fun m9 h1 h2 => by simp [seenByNative, h1, h2, narrow, sbV, (narZ (hb.1 rfl)).2.2]) hM rfl rfl hin.1 hin.2 (show ln ≤ 2147483647 by omega) rfl zy_setBoolean zc_setBoolean d hf hlo hsz (by omega) (by omega) (fun b => zx_widen (Nat.add_le_add_left (by decide) _) (Nat.add_le_add_left (by decide) _) (kx _ 2 b (sv_mis (by decide) (by decide) hin.1 hin.2 (by decide)) (by decide) (Or.inr (Or.inl ⟨rfl, rfl⟩))))
      · have hout : i < 0 ∨ (ln : Int) ≤ i := by omega
        exact zn_setOut (v := sbV 0 b) (t0 := 2) C hκ hκl hT hZ (fun m9 h1 h2 => by simp [seenByNative, h1, h2, narrow, sbV, (narZ (hb.1 rfl)).2.2]) hM rfl rfl ri hout zy_setBoolean zc_setBoolean d hf hlo hsz (by omega) (by omega) (fun b => zx_widen (Nat.add_le_add_left (by decide) _) (Nat.add_le_add_left (by decide) _) (kx _ 3 b (sv_out (by decide) (by decide) hout) (by decide) (Or.inr (Or.inr (Or.inl ⟨rfl, rfl⟩)))))
    · by_cases hin : 0 ≤ i ∧ i < (ln : Int)
      · exact zn_setMis (v := sbV 0 b) (t0 := 3) C hκ hκl hT hZ (fun m9 h1 h2 => by simp [seenByNative, h1, h2, narrow, sbV, (narZ (hb.1 rfl)).2.2]) hM rfl rfl hin.1 hin.2 (show ln ≤ 2147483647 by omega) rfl zy_setBoolean zc_setBoolean d hf hlo hsz (by omega) (by omega) (fun b => zx_widen (Nat.add_le_add_left (by decide) _) (Nat.add_le_add_left (by decide) _) (kx _ 2 b (sv_mis (by decide) (by decide) hin.1 hin.2 (by decide)) (by decide) (Or.inr (Or.inl ⟨rfl, rfl⟩))))
      · have hout : i < 0 ∨ (ln : Int) ≤ i := by omega
        exact zn_setOut (v := sbV 0 b) (t0 := 3) C hκ hκl hT hZ (fun m9 h1 h2 => by simp [seenByNative, h1, h2, narrow, sbV, (narZ (hb.1 rfl)).2.2]) hM rfl rfl ri hout zy_setBoolean zc_setBoolean d hf hlo hsz (by omega) (by omega) (fun b => zx_widen (Nat.add_le_add_left (by decide) _) (Nat.add_le_add_left (by decide) _) (kx _ 3 b (sv_out (by decide) (by decide) hout) (by decide) (Or.inr (Or.inr (Or.inl ⟨rfl, rfl⟩)))))
    · by_cases hin : 0 ≤ i ∧ i < (ln : Int)
      · exact zn_setMis (v := sbV 0 b) (t0 := 4) C hκ hκl hT hZ (fun m9 h1 h2 => by simp [seenByNative, h1, h2, narrow, sbV, (narZ (hb.1 rfl)).2.2]) hM rfl rfl hin.1 hin.2 (show ln ≤ 2147483647 by omega) rfl zy_setBoolean zc_setBoolean d hf hlo hsz (by omega) (by omega) (fun b => zx_widen (Nat.add_le_add_left (by decide) _) (Nat.add_le_add_left (by decide) _) (kx _ 2 b (sv_mis (by decide) (by decide) hin.1 hin.2 (by decide)) (by decide) (Or.inr (Or.inl ⟨rfl, rfl⟩))))
      · have hout : i < 0 ∨ (ln : Int) ≤ i := by omega
        exact zn_setOut (v := sbV 0 b) (t0 := 4) C hκ hκl hT hZ (fun m9 h1 h2 => by simp [seenByNative, h1, h2, narrow, sbV, (narZ (hb.1 rfl)).2.2]) hM rfl rfl ri hout zy_setBoolean zc_setBoolean d hf hlo hsz (by omega) (by omega) (fun b => zx_widen (Nat.add_le_add_left (by decide) _) (Nat.add_le_add_left (by decide) _) (kx _ 3 b (sv_out (by decide) (by decide) hout) (by decide) (Or.inr (Or.inr (Or.inl ⟨rfl, rfl⟩)))))
  · subst r1
    by_cases hin : 0 ≤ i ∧ i < (ln : Int)
    · exact zn_setMis (v := sbV 0 b) (t0 := 5) C hκ hκl hT hZ (fun m9 h1 h2 => by simp [seenByNative, h1, h2, narrow, sbV, (narZ (hb.1 rfl)).2.2]) hM rfl rfl hin.1 hin.2 (show ln ≤ 2147483647 by omega) rfl zy_setBoolean zc_setBoolean d hf hlo hsz (by omega) (by omega) (fun b => zx_widen (Nat.add_le_add_left (by decide) _) (Nat.add_le_add_left (by decide) _) (kx _ 2 b (sv_mis (by decide) (by decide) hin.1 hin.2 (by decide)) (by decide) (Or.inr (Or.inl ⟨rfl, rfl⟩))))
    · have hout : i < 0 ∨ (ln : Int) ≤ i := by omega
      exact zn_setOut (v := sbV 0 b) (t0 := 5) C hκ hκl hT hZ (fun m9 h1 h2 => by simp [seenByNative, h1, h2, narrow, sbV, (narZ (hb.1 rfl)).2.2]) hM rfl rfl ri hout zy_setBoolean zc_setBoolean d hf hlo hsz (by omega) (by omega) (fun b => zx_widen (Nat.add_le_add_left (by decide) _) (Nat.add_le_add_left (by decide) _) (kx _ 3 b (sv_out (by decide) (by decide) hout) (by decide) (Or.inr (Or.inr (Or.inl ⟨rfl, rfl⟩)))))
  · subst r1
    by_cases hin : 0 ≤ i ∧ i < (ln : Int)
    · exact zn_setMis (v := sbV 0 b) (t0 := 6) C hκ hκl hT hZ (fun m9 h1 h2 => by simp [seenByNative, h1, h2, narrow, sbV, (narZ (hb.1 rfl)).2.2]) hM rfl rfl hin.1 hin.2 (show ln ≤ 2147483647 by omega) rfl zy_setBoolean zc_setBoolean d hf hlo hsz (by omega) (by omega) (fun b => zx_widen (Nat.add_le_add_left (by decide) _) (Nat.add_le_add_left (by decide) _) (kx _ 2 b (sv_mis (by decide) (by decide) hin.1 hin.2 (by decide)) (by decide) (Or.inr (Or.inl ⟨rfl, rfl⟩))))
    · have hout : i < 0 ∨ (ln : Int) ≤ i := by omega
      exact zn_setOut (v := sbV 0 b) (t0 := 6) C hκ hκl hT hZ (fun m9 h1 h2 => by simp [seenByNative, h1, h2, narrow, sbV, (narZ (hb.1 rfl)).2.2]) hM rfl rfl ri hout zy_setBoolean zc_setBoolean d hf hlo hsz (by omega) (by omega) (fun b => zx_widen (Nat.add_le_add_left (by decide) _) (Nat.add_le_add_left (by decide) _) (kx _ 3 b (sv_out (by decide) (by decide) hout) (by decide) (Or.inr (Or.inr (Or.inl ⟨rfl, rfl⟩)))))
  · subst r1
    by_cases hin : 0 ≤ i ∧ i < (ln : Int)
    · exact zn_setMis (v := sbV 0 b) (t0 := 7) C hκ hκl hT hZ (fun m9 h1 h2 => by simp [seenByNative, h1, h2, narrow, sbV, (narZ (hb.1 rfl)).2.2]) hM rfl rfl hin.1 hin.2 (show ln ≤ 2147483647 by omega) rfl zy_setBoolean zc_setBoolean d hf hlo hsz (by omega) (by omega) (fun b => zx_widen (Nat.add_le_add_left (by decide) _) (Nat.add_le_add_left (by decide) _) (kx _ 2 b (sv_mis (by decide) (by decide) hin.1 hin.2 (by decide)) (by decide) (Or.inr (Or.inl ⟨rfl, rfl⟩))))
    · have hout : i < 0 ∨ (ln : Int) ≤ i := by omega
      exact zn_setOut (v := sbV 0 b) (t0 := 7) C hκ hκl hT hZ (fun m9 h1 h2 => by simp [seenByNative, h1, h2, narrow, sbV, (narZ (hb.1 rfl)).2.2]) hM rfl rfl ri hout zy_setBoolean zc_setBoolean d hf hlo hsz (by omega) (by omega) (fun b => zx_widen (Nat.add_le_add_left (by decide) _) (Nat.add_le_add_left (by decide) _) (kx _ 3 b (sv_out (by decide) (by decide) hout) (by decide) (Or.inr (Or.inr (Or.inl ⟨rfl, rfl⟩)))))
  · have hx9 : xcA θ w t = θ.2.1 10 ∨ xcA θ w t = θ.2.1 13 ∨ xcA θ w t = θ.2.1 12 := by unfold xcA; split; exact Or.inl rfl; split; exact Or.inr (Or.inl rfl); exact Or.inr (Or.inr rfl)
    rcases hx9 with hx9 | hx9 | hx9 <;> rw [hx9] at hM
    · exact zn_setRef (v := sbV 0 b) (t0 := 10) C hκ hκl hT hZ (fun m9 h1 h2 => by simp [seenByNative, h1, h2, narrow, sbV, (narZ (hb.1 rfl)).2.2]) hM rfl rfl zy_setBoolean zc_setBoolean d hf hlo hsz (by omega) (by omega) (fun b => zx_widen (Nat.add_le_add_left (by decide) _) (Nat.add_le_add_left (by decide) _) (kx _ 2 b (sv_ref (by decide) r1) (by decide) (Or.inr (Or.inl ⟨rfl, rfl⟩))))
    · exact zn_setRef (v := sbV 0 b) (t0 := 13) C hκ hκl hT hZ (fun m9 h1 h2 => by simp [seenByNative, h1, h2, narrow, sbV, (narZ (hb.1 rfl)).2.2]) hM rfl rfl zy_setBoolean zc_setBoolean d hf hlo hsz (by omega) (by omega) (fun b => zx_widen (Nat.add_le_add_left (by decide) _) (Nat.add_le_add_left (by decide) _) (kx _ 2 b (sv_ref (by decide) r1) (by decide) (Or.inr (Or.inl ⟨rfl, rfl⟩))))
    · exact zn_setRef (v := sbV 0 b) (t0 := 12) C hκ hκl hT hZ (fun m9 h1 h2 => by simp [seenByNative, h1, h2, narrow, sbV, (narZ (hb.1 rfl)).2.2]) hM rfl rfl zy_setBoolean zc_setBoolean d hf hlo hsz (by omega) (by omega) (fun b => zx_widen (Nat.add_le_add_left (by decide) _) (Nat.add_le_add_left (by decide) _) (kx _ 2 b (sv_ref (by decide) r1) (by decide) (Or.inr (Or.inl ⟨rfl, rfl⟩))))
theorem x_sv1 (C : ZC κ "ReflectMirror" nm cc nL ret rm P) (hκ : κ.1 = θ) (hκl : κ.2.2.1 = l) (hT : zTb θ) (hZ : zTx θ l) (q : Nat) (hM : M a = some e) (hr : xRow θ σ w t ln v e) (hb : xVok 1 b) (hrg : 0 ≤ b ∧ b ≤ 65535) (hln : ln ≤ 1000) (ri : inR i) (d : decode cc pc = .ok (.invokestatic 144, 3)) (hf : 9 ≤ rm.frames) (hlo : 10250 ≤ rm.locals) (hsz : (rest.map fun v => v.category).sum ≤ 8) (hce : n + 3 ≤ rm.cells) (hsl : k + 210 ≤ rm.slots) (hq : pc + 3 = q) (kk : ∀ e' : va_E, svE t ln i 1 = 0 → xRow θ σ w t ln (svU v i (wdL b 1 t)) e' → Z κ (zP θ (zup M a e') N) n k q lv rest) (kx : ∀ (E : String) (c : Int) (b : Nat), svE t ln i 1 = c → c ≠ 0 → xEz E c → zX κ (zP θ M N) (n + 3) (k + 210) pc lv b E) : Z κ (zP θ M N) n k pc lv (sbV 1 b :: .int (iI i) :: .ref a :: rest) := by
  rcases hr with ⟨r1, r2, f, rfl, r3⟩ | ⟨r1, f, rfl, r3⟩ | ⟨r1, f, rfl, r3⟩ | ⟨r1, f, rfl, r3⟩ | ⟨r1, f, rfl, r3⟩
  · rcases (show t = 0 ∨ t = 1 ∨ t = 2 ∨ t = 3 ∨ t = 4 by omega) with rfl | rfl | rfl | rfl | rfl
    · by_cases hin : 0 ≤ i ∧ i < (ln : Int)
      · exact zn_setMis (v := sbV 1 b) (t0 := 0) C hκ hκl hT hZ (fun m9 h1 h2 => by have h3 := (narC hrg).1; simp only [narrow] at h3; simp [seenByNative, h1, h2, narrow, sbV]; injection h3) hM rfl rfl hin.1 hin.2 (show ln ≤ 2147483647 by omega) rfl zy_setChar zc_setChar d hf hlo hsz (by omega) (by omega) (fun b => zx_widen (Nat.add_le_add_left (by decide) _) (Nat.add_le_add_left (by decide) _) (kx _ 2 b (sv_mis (by decide) (by decide) hin.1 hin.2 (by decide)) (by decide) (Or.inr (Or.inl ⟨rfl, rfl⟩))))
      · have hout : i < 0 ∨ (ln : Int) ≤ i := by omega
        exact zn_setOut (v := sbV 1 b) (t0 := 0) C hκ hκl hT hZ (fun m9 h1 h2 => by have h3 := (narC hrg).1; simp only [narrow] at h3; simp [seenByNative, h1, h2, narrow, sbV]; injection h3) hM rfl rfl ri hout zy_setChar zc_setChar d hf hlo hsz (by omega) (by omega) (fun b => zx_widen (Nat.add_le_add_left (by decide) _) (Nat.add_le_add_left (by decide) _) (kx _ 3 b (sv_out (by decide) (by decide) hout) (by decide) (Or.inr (Or.inr (Or.inl ⟨rfl, rfl⟩)))))
    · by_cases hin : 0 ≤ i ∧ i < (ln : Int)
      · have hnar : narrow .char (.int (iI b)) = .int (iI b) := (narC hrg).1
        have hval : (iI b) = iI (wdL b 1 1) := (by rw [show wdL b 1 1 = b from if_pos (by decide)])
        refine zn_setOk (v := sbV 1 b) (v' := .int (iI b)) (t0 := 1) C hκ hκl q (fun m9 h1 h2 => by have h3 := (narC hrg).1; simp only [narrow] at h3; simp [seenByNative, h1, h2, narrow, sbV]; injection h3) hM rfl rfl hin.1 hin.2 (show ln ≤ 2147483647 by omega) rfl rfl (by rw [hnar]; exact (narC hrg).2) (by rw [hnar]; exact trivial) zy_setChar zc_setChar d (by omega) (by omega) hsz hq ?_
        rw [hnar]
        exact kk _ (sv_ok (by decide) (by decide) hin.1 hin.2 (by decide)) (Or.inl ⟨by decide, by decide, _, rfl, svu_at hin.1 r3 hval⟩)
      · have hout : i < 0 ∨ (ln : Int) ≤ i := by omega
        exact zn_setOut (v := sbV 1 b) (t0 := 1) C hκ hκl hT hZ (fun m9 h1 h2 => by have h3 := (narC hrg).1; simp only [narrow] at h3; simp [seenByNative, h1, h2, narrow, sbV]; injection h3) hM rfl rfl ri hout zy_setChar zc_setChar d hf hlo hsz (by omega) (by omega) (fun b => zx_widen (Nat.add_le_add_left (by decide) _) (Nat.add_le_add_left (by decide) _) (kx _ 3 b (sv_out (by decide) (by decide) hout) (by decide) (Or.inr (Or.inr (Or.inl ⟨rfl, rfl⟩)))))
    · by_cases hin : 0 ≤ i ∧ i < (ln : Int)
      · exact zn_setMis (v := sbV 1 b) (t0 := 2) C hκ hκl hT hZ (fun m9 h1 h2 => by have h3 := (narC hrg).1; simp only [narrow] at h3; simp [seenByNative, h1, h2, narrow, sbV]; injection h3) hM rfl rfl hin.1 hin.2 (show ln ≤ 2147483647 by omega) rfl zy_setChar zc_setChar d hf hlo hsz (by omega) (by omega) (fun b => zx_widen (Nat.add_le_add_left (by decide) _) (Nat.add_le_add_left (by decide) _) (kx _ 2 b (sv_mis (by decide) (by decide) hin.1 hin.2 (by decide)) (by decide) (Or.inr (Or.inl ⟨rfl, rfl⟩))))
      · have hout : i < 0 ∨ (ln : Int) ≤ i := by omega
        exact zn_setOut (v := sbV 1 b) (t0 := 2) C hκ hκl hT hZ (fun m9 h1 h2 => by have h3 := (narC hrg).1; simp only [narrow] at h3; simp [seenByNative, h1, h2, narrow, sbV]; injection h3) hM rfl rfl ri hout zy_setChar zc_setChar d hf hlo hsz (by omega) (by omega) (fun b => zx_widen (Nat.add_le_add_left (by decide) _) (Nat.add_le_add_left (by decide) _) (kx _ 3 b (sv_out (by decide) (by decide) hout) (by decide) (Or.inr (Or.inr (Or.inl ⟨rfl, rfl⟩)))))
    · by_cases hin : 0 ≤ i ∧ i < (ln : Int)
      · exact zn_setMis (v := sbV 1 b) (t0 := 3) C hκ hκl hT hZ (fun m9 h1 h2 => by have h3 := (narC hrg).1; simp only [narrow] at h3; simp [seenByNative, h1, h2, narrow, sbV]; injection h3) hM rfl rfl hin.1 hin.2 (show ln ≤ 2147483647 by omega) rfl zy_setChar zc_setChar d hf hlo hsz (by omega) (by omega) (fun b => zx_widen (Nat.add_le_add_left (by decide) _) (Nat.add_le_add_left (by decide) _) (kx _ 2 b (sv_mis (by decide) (by decide) hin.1 hin.2 (by decide)) (by decide) (Or.inr (Or.inl ⟨rfl, rfl⟩))))
      · have hout : i < 0 ∨ (ln : Int) ≤ i := by omega
        exact zn_setOut (v := sbV 1 b) (t0 := 3) C hκ hκl hT hZ (fun m9 h1 h2 => by have h3 := (narC hrg).1; simp only [narrow] at h3; simp [seenByNative, h1, h2, narrow, sbV]; injection h3) hM rfl rfl ri hout zy_setChar zc_setChar d hf hlo hsz (by omega) (by omega) (fun b => zx_widen (Nat.add_le_add_left (by decide) _) (Nat.add_le_add_left (by decide) _) (kx _ 3 b (sv_out (by decide) (by decide) hout) (by decide) (Or.inr (Or.inr (Or.inl ⟨rfl, rfl⟩)))))
    · by_cases hin : 0 ≤ i ∧ i < (ln : Int)
      · have hnar : narrow .int (.int (iI b)) = .int (iI b) := rfl
        have hval : (iI b) = iI (wdL b 1 4) := (by rw [show wdL b 1 4 = b from if_pos (by decide)])
        refine zn_setOk (v := sbV 1 b) (v' := .int (iI b)) (t0 := 4) C hκ hκl q (fun m9 h1 h2 => by have h3 := (narC hrg).1; simp only [narrow] at h3; simp [seenByNative, h1, h2, narrow, sbV]; injection h3) hM rfl rfl hin.1 hin.2 (show ln ≤ 2147483647 by omega) rfl rfl (by rw [hnar]; exact rfl) (by rw [hnar]; exact trivial) zy_setChar zc_setChar d (by omega) (by omega) hsz hq ?_
        rw [hnar]
        exact kk _ (sv_ok (by decide) (by decide) hin.1 hin.2 (by decide)) (Or.inl ⟨by decide, by decide, _, rfl, svu_at hin.1 r3 hval⟩)
      · have hout : i < 0 ∨ (ln : Int) ≤ i := by omega
        exact zn_setOut (v := sbV 1 b) (t0 := 4) C hκ hκl hT hZ (fun m9 h1 h2 => by have h3 := (narC hrg).1; simp only [narrow] at h3; simp [seenByNative, h1, h2, narrow, sbV]; injection h3) hM rfl rfl ri hout zy_setChar zc_setChar d hf hlo hsz (by omega) (by omega) (fun b => zx_widen (Nat.add_le_add_left (by decide) _) (Nat.add_le_add_left (by decide) _) (kx _ 3 b (sv_out (by decide) (by decide) hout) (by decide) (Or.inr (Or.inr (Or.inl ⟨rfl, rfl⟩)))))
  · subst r1
    by_cases hin : 0 ≤ i ∧ i < (ln : Int)
    · have hnar : narrow .long (.long (Int32.toInt64 (iI b))) = .long (Int32.toInt64 (iI b)) := rfl
      have hval : (Int32.toInt64 (iI b)) = lI (wdL b 1 5) := (by rw [show wdL b 1 5 = b from if_pos (by decide)]; exact iI_i64 (hb.2.1 (by decide) (by decide)))
      refine zn_setOk (v := sbV 1 b) (v' := .long (Int32.toInt64 (iI b))) (t0 := 5) C hκ hκl q (fun m9 h1 h2 => by have h3 := (narC hrg).1; simp only [narrow] at h3; simp [seenByNative, h1, h2, narrow, sbV]; injection h3) hM rfl rfl hin.1 hin.2 (show ln ≤ 2147483647 by omega) rfl rfl (by rw [hnar]; exact rfl) (by rw [hnar]; exact trivial) zy_setChar zc_setChar d (by omega) (by omega) hsz hq ?_
      rw [hnar]
      exact kk _ (sv_ok (by decide) (by decide) hin.1 hin.2 (by decide)) (Or.inr (Or.inl ⟨rfl, _, rfl, svu_at hin.1 r3 hval⟩))
    · have hout : i < 0 ∨ (ln : Int) ≤ i := by omega
      exact zn_setOut (v := sbV 1 b) (t0 := 5) C hκ hκl hT hZ (fun m9 h1 h2 => by have h3 := (narC hrg).1; simp only [narrow] at h3; simp [seenByNative, h1, h2, narrow, sbV]; injection h3) hM rfl rfl ri hout zy_setChar zc_setChar d hf hlo hsz (by omega) (by omega) (fun b => zx_widen (Nat.add_le_add_left (by decide) _) (Nat.add_le_add_left (by decide) _) (kx _ 3 b (sv_out (by decide) (by decide) hout) (by decide) (Or.inr (Or.inr (Or.inl ⟨rfl, rfl⟩)))))
  · subst r1
    by_cases hin : 0 ≤ i ∧ i < (ln : Int)
    · have hnar : narrow .float (.float (FP.i2f (iI b))) = .float (FP.i2f (iI b)) := rfl
      have hval : (FP.i2f (iI b)) = U32 (wdL b 1 6) := ((i2f_l2f (hb.2.1 (by decide) (by decide))).trans (wdl_6 (by decide)).symm)
      refine zn_setOk (v := sbV 1 b) (v' := .float (FP.i2f (iI b))) (t0 := 6) C hκ hκl q (fun m9 h1 h2 => by have h3 := (narC hrg).1; simp only [narrow] at h3; simp [seenByNative, h1, h2, narrow, sbV]; injection h3) hM rfl rfl hin.1 hin.2 (show ln ≤ 2147483647 by omega) rfl rfl (by rw [hnar]; exact rfl) (by rw [hnar]; exact trivial) zy_setChar zc_setChar d (by omega) (by omega) hsz hq ?_
      rw [hnar]
      exact kk _ (sv_ok (by decide) (by decide) hin.1 hin.2 (by decide)) (Or.inr (Or.inr (Or.inl ⟨rfl, _, rfl, svu_at hin.1 r3 hval⟩)))
    · have hout : i < 0 ∨ (ln : Int) ≤ i := by omega
      exact zn_setOut (v := sbV 1 b) (t0 := 6) C hκ hκl hT hZ (fun m9 h1 h2 => by have h3 := (narC hrg).1; simp only [narrow] at h3; simp [seenByNative, h1, h2, narrow, sbV]; injection h3) hM rfl rfl ri hout zy_setChar zc_setChar d hf hlo hsz (by omega) (by omega) (fun b => zx_widen (Nat.add_le_add_left (by decide) _) (Nat.add_le_add_left (by decide) _) (kx _ 3 b (sv_out (by decide) (by decide) hout) (by decide) (Or.inr (Or.inr (Or.inl ⟨rfl, rfl⟩)))))
  · subst r1
    by_cases hin : 0 ≤ i ∧ i < (ln : Int)
    · have hnar : narrow .double (.double (FP.i2d (iI b))) = .double (FP.i2d (iI b)) := rfl
      have hval : (FP.i2d (iI b)) = U64 (wdL b 1 7) := ((i2d_l2d (hb.2.1 (by decide) (by decide))).trans (wdl_7 (by decide)).symm)
      refine zn_setOk (v := sbV 1 b) (v' := .double (FP.i2d (iI b))) (t0 := 7) C hκ hκl q (fun m9 h1 h2 => by have h3 := (narC hrg).1; simp only [narrow] at h3; simp [seenByNative, h1, h2, narrow, sbV]; injection h3) hM rfl rfl hin.1 hin.2 (show ln ≤ 2147483647 by omega) rfl (awd1 rfl) (by rw [hnar]; exact rfl) (by rw [hnar]; exact trivial) zy_setChar zc_setChar d (by omega) (by omega) hsz hq ?_
      rw [hnar]
      exact kk _ (sv_ok (by decide) (by decide) hin.1 hin.2 (by decide)) (Or.inr (Or.inr (Or.inr (Or.inl ⟨rfl, _, rfl, svu_at hin.1 r3 hval⟩))))
    · have hout : i < 0 ∨ (ln : Int) ≤ i := by omega
      exact zn_setOut (v := sbV 1 b) (t0 := 7) C hκ hκl hT hZ (fun m9 h1 h2 => by have h3 := (narC hrg).1; simp only [narrow] at h3; simp [seenByNative, h1, h2, narrow, sbV]; injection h3) hM rfl rfl ri hout zy_setChar zc_setChar d hf hlo hsz (by omega) (by omega) (fun b => zx_widen (Nat.add_le_add_left (by decide) _) (Nat.add_le_add_left (by decide) _) (kx _ 3 b (sv_out (by decide) (by decide) hout) (by decide) (Or.inr (Or.inr (Or.inl ⟨rfl, rfl⟩)))))
  · have hx9 : xcA θ w t = θ.2.1 10 ∨ xcA θ w t = θ.2.1 13 ∨ xcA θ w t = θ.2.1 12 := by unfold xcA; split; exact Or.inl rfl; split; exact Or.inr (Or.inl rfl); exact Or.inr (Or.inr rfl)
    rcases hx9 with hx9 | hx9 | hx9 <;> rw [hx9] at hM
    · exact zn_setRef (v := sbV 1 b) (t0 := 10) C hκ hκl hT hZ (fun m9 h1 h2 => by have h3 := (narC hrg).1; simp only [narrow] at h3; simp [seenByNative, h1, h2, narrow, sbV]; injection h3) hM rfl rfl zy_setChar zc_setChar d hf hlo hsz (by omega) (by omega) (fun b => zx_widen (Nat.add_le_add_left (by decide) _) (Nat.add_le_add_left (by decide) _) (kx _ 2 b (sv_ref (by decide) r1) (by decide) (Or.inr (Or.inl ⟨rfl, rfl⟩))))
    · exact zn_setRef (v := sbV 1 b) (t0 := 13) C hκ hκl hT hZ (fun m9 h1 h2 => by have h3 := (narC hrg).1; simp only [narrow] at h3; simp [seenByNative, h1, h2, narrow, sbV]; injection h3) hM rfl rfl zy_setChar zc_setChar d hf hlo hsz (by omega) (by omega) (fun b => zx_widen (Nat.add_le_add_left (by decide) _) (Nat.add_le_add_left (by decide) _) (kx _ 2 b (sv_ref (by decide) r1) (by decide) (Or.inr (Or.inl ⟨rfl, rfl⟩))))
    · exact zn_setRef (v := sbV 1 b) (t0 := 12) C hκ hκl hT hZ (fun m9 h1 h2 => by have h3 := (narC hrg).1; simp only [narrow] at h3; simp [seenByNative, h1, h2, narrow, sbV]; injection h3) hM rfl rfl zy_setChar zc_setChar d hf hlo hsz (by omega) (by omega) (fun b => zx_widen (Nat.add_le_add_left (by decide) _) (Nat.add_le_add_left (by decide) _) (kx _ 2 b (sv_ref (by decide) r1) (by decide) (Or.inr (Or.inl ⟨rfl, rfl⟩))))
theorem x_sv2 (C : ZC κ "ReflectMirror" nm cc nL ret rm P) (hκ : κ.1 = θ) (hκl : κ.2.2.1 = l) (hT : zTb θ) (hZ : zTx θ l) (q : Nat) (hM : M a = some e) (hr : xRow θ σ w t ln v e) (hb : xVok 2 b) (hrg : -128 ≤ b ∧ b ≤ 127) (hln : ln ≤ 1000) (ri : inR i) (d : decode cc pc = .ok (.invokestatic 148, 3)) (hf : 9 ≤ rm.frames) (hlo : 10250 ≤ rm.locals) (hsz : (rest.map fun v => v.category).sum ≤ 8) (hce : n + 3 ≤ rm.cells) (hsl : k + 210 ≤ rm.slots) (hq : pc + 3 = q) (kk : ∀ e' : va_E, svE t ln i 2 = 0 → xRow θ σ w t ln (svU v i (wdL b 2 t)) e' → Z κ (zP θ (zup M a e') N) n k q lv rest) (kx : ∀ (E : String) (c : Int) (b : Nat), svE t ln i 2 = c → c ≠ 0 → xEz E c → zX κ (zP θ M N) (n + 3) (k + 210) pc lv b E) : Z κ (zP θ M N) n k pc lv (sbV 2 b :: .int (iI i) :: .ref a :: rest) := by
  rcases hr with ⟨r1, r2, f, rfl, r3⟩ | ⟨r1, f, rfl, r3⟩ | ⟨r1, f, rfl, r3⟩ | ⟨r1, f, rfl, r3⟩ | ⟨r1, f, rfl, r3⟩
  · rcases (show t = 0 ∨ t = 1 ∨ t = 2 ∨ t = 3 ∨ t = 4 by omega) with rfl | rfl | rfl | rfl | rfl
    · by_cases hin : 0 ≤ i ∧ i < (ln : Int)
      · exact zn_setMis (v := sbV 2 b) (t0 := 0) C hκ hκl hT hZ (fun m9 h1 h2 => by have h3 := (narB hrg).1; simp only [narrow] at h3; simp [seenByNative, h1, h2, narrow, sbV]; injection h3) hM rfl rfl hin.1 hin.2 (show ln ≤ 2147483647 by omega) rfl zy_setByte zc_setByte d hf hlo hsz (by omega) (by omega) (fun b => zx_widen (Nat.add_le_add_left (by decide) _) (Nat.add_le_add_left (by decide) _) (kx _ 2 b (sv_mis (by decide) (by decide) hin.1 hin.2 (by decide)) (by decide) (Or.inr (Or.inl ⟨rfl, rfl⟩))))
      · have hout : i < 0 ∨ (ln : Int) ≤ i := by omega
        exact zn_setOut (v := sbV 2 b) (t0 := 0) C hκ hκl hT hZ (fun m9 h1 h2 => by have h3 := (narB hrg).1; simp only [narrow] at h3; simp [seenByNative, h1, h2, narrow, sbV]; injection h3) hM rfl rfl ri hout zy_setByte zc_setByte d hf hlo hsz (by omega) (by omega) (fun b => zx_widen (Nat.add_le_add_left (by decide) _) (Nat.add_le_add_left (by decide) _) (kx _ 3 b (sv_out (by decide) (by decide) hout) (by decide) (Or.inr (Or.inr (Or.inl ⟨rfl, rfl⟩)))))
    · by_cases hin : 0 ≤ i ∧ i < (ln : Int)
      · exact zn_setMis (v := sbV 2 b) (t0 := 1) C hκ hκl hT hZ (fun m9 h1 h2 => by have h3 := (narB hrg).1; simp only [narrow] at h3; simp [seenByNative, h1, h2, narrow, sbV]; injection h3) hM rfl rfl hin.1 hin.2 (show ln ≤ 2147483647 by omega) rfl zy_setByte zc_setByte d hf hlo hsz (by omega) (by omega) (fun b => zx_widen (Nat.add_le_add_left (by decide) _) (Nat.add_le_add_left (by decide) _) (kx _ 2 b (sv_mis (by decide) (by decide) hin.1 hin.2 (by decide)) (by decide) (Or.inr (Or.inl ⟨rfl, rfl⟩))))
      · have hout : i < 0 ∨ (ln : Int) ≤ i := by omega
        exact zn_setOut (v := sbV 2 b) (t0 := 1) C hκ hκl hT hZ (fun m9 h1 h2 => by have h3 := (narB hrg).1; simp only [narrow] at h3; simp [seenByNative, h1, h2, narrow, sbV]; injection h3) hM rfl rfl ri hout zy_setByte zc_setByte d hf hlo hsz (by omega) (by omega) (fun b => zx_widen (Nat.add_le_add_left (by decide) _) (Nat.add_le_add_left (by decide) _) (kx _ 3 b (sv_out (by decide) (by decide) hout) (by decide) (Or.inr (Or.inr (Or.inl ⟨rfl, rfl⟩)))))
    · by_cases hin : 0 ≤ i ∧ i < (ln : Int)
      · have hnar : narrow .byte (.int (iI b)) = .int (iI b) := (narB hrg).1
        have hval : (iI b) = iI (wdL b 2 2) := (by rw [show wdL b 2 2 = b from if_pos (by decide)])
        refine zn_setOk (v := sbV 2 b) (v' := .int (iI b)) (t0 := 2) C hκ hκl q (fun m9 h1 h2 => by have h3 := (narB hrg).1; simp only [narrow] at h3; simp [seenByNative, h1, h2, narrow, sbV]; injection h3) hM rfl rfl hin.1 hin.2 (show ln ≤ 2147483647 by omega) rfl rfl (by rw [hnar]; exact (narB hrg).2) (by rw [hnar]; exact trivial) zy_setByte zc_setByte d (by omega) (by omega) hsz hq ?_
        rw [hnar]
        exact kk _ (sv_ok (by decide) (by decide) hin.1 hin.2 (by decide)) (Or.inl ⟨by decide, by decide, _, rfl, svu_at hin.1 r3 hval⟩)
      · have hout : i < 0 ∨ (ln : Int) ≤ i := by omega
        exact zn_setOut (v := sbV 2 b) (t0 := 2) C hκ hκl hT hZ (fun m9 h1 h2 => by have h3 := (narB hrg).1; simp only [narrow] at h3; simp [seenByNative, h1, h2, narrow, sbV]; injection h3) hM rfl rfl ri hout zy_setByte zc_setByte d hf hlo hsz (by omega) (by omega) (fun b => zx_widen (Nat.add_le_add_left (by decide) _) (Nat.add_le_add_left (by decide) _) (kx _ 3 b (sv_out (by decide) (by decide) hout) (by decide) (Or.inr (Or.inr (Or.inl ⟨rfl, rfl⟩)))))
    · by_cases hin : 0 ≤ i ∧ i < (ln : Int)
      · have hnar : narrow .short (.int (iI b)) = .int (iI b) := (narS (show -32768 ≤ b ∧ b ≤ 32767 by omega)).1
        have hval : (iI b) = iI (wdL b 2 3) := (by rw [show wdL b 2 3 = b from if_pos (by decide)])
        refine zn_setOk (v := sbV 2 b) (v' := .int (iI b)) (t0 := 3) C hκ hκl q (fun m9 h1 h2 => by have h3 := (narB hrg).1; simp only [narrow] at h3; simp [seenByNative, h1, h2, narrow, sbV]; injection h3) hM rfl rfl hin.1 hin.2 (show ln ≤ 2147483647 by omega) rfl rfl (by rw [hnar]; exact (narS (show -32768 ≤ b ∧ b ≤ 32767 by omega)).2) (by rw [hnar]; exact trivial) zy_setByte zc_setByte d (by omega) (by omega) hsz hq ?_
        rw [hnar]
        exact kk _ (sv_ok (by decide) (by decide) hin.1 hin.2 (by decide)) (Or.inl ⟨by decide, by decide, _, rfl, svu_at hin.1 r3 hval⟩)
      · have hout : i < 0 ∨ (ln : Int) ≤ i := by omega
        exact zn_setOut (v := sbV 2 b) (t0 := 3) C hκ hκl hT hZ (fun m9 h1 h2 => by have h3 := (narB hrg).1; simp only [narrow] at h3; simp [seenByNative, h1, h2, narrow, sbV]; injection h3) hM rfl rfl ri hout zy_setByte zc_setByte d hf hlo hsz (by omega) (by omega) (fun b => zx_widen (Nat.add_le_add_left (by decide) _) (Nat.add_le_add_left (by decide) _) (kx _ 3 b (sv_out (by decide) (by decide) hout) (by decide) (Or.inr (Or.inr (Or.inl ⟨rfl, rfl⟩)))))
    · by_cases hin : 0 ≤ i ∧ i < (ln : Int)
      · have hnar : narrow .int (.int (iI b)) = .int (iI b) := rfl
        have hval : (iI b) = iI (wdL b 2 4) := (by rw [show wdL b 2 4 = b from if_pos (by decide)])
        refine zn_setOk (v := sbV 2 b) (v' := .int (iI b)) (t0 := 4) C hκ hκl q (fun m9 h1 h2 => by have h3 := (narB hrg).1; simp only [narrow] at h3; simp [seenByNative, h1, h2, narrow, sbV]; injection h3) hM rfl rfl hin.1 hin.2 (show ln ≤ 2147483647 by omega) rfl rfl (by rw [hnar]; exact rfl) (by rw [hnar]; exact trivial) zy_setByte zc_setByte d (by omega) (by omega) hsz hq ?_
        rw [hnar]
        exact kk _ (sv_ok (by decide) (by decide) hin.1 hin.2 (by decide)) (Or.inl ⟨by decide, by decide, _, rfl, svu_at hin.1 r3 hval⟩)
      · have hout : i < 0 ∨ (ln : Int) ≤ i := by omega
        exact zn_setOut (v := sbV 2 b) (t0 := 4) C hκ hκl hT hZ (fun m9 h1 h2 => by have h3 := (narB hrg).1; simp only [narrow] at h3; simp [seenByNative, h1, h2, narrow, sbV]; injection h3) hM rfl rfl ri hout zy_setByte zc_setByte d hf hlo hsz (by omega) (by omega) (fun b => zx_widen (Nat.add_le_add_left (by decide) _) (Nat.add_le_add_left (by decide) _) (kx _ 3 b (sv_out (by decide) (by decide) hout) (by decide) (Or.inr (Or.inr (Or.inl ⟨rfl, rfl⟩)))))
  · subst r1
    by_cases hin : 0 ≤ i ∧ i < (ln : Int)
    · have hnar : narrow .long (.long (Int32.toInt64 (iI b))) = .long (Int32.toInt64 (iI b)) := rfl
      have hval : (Int32.toInt64 (iI b)) = lI (wdL b 2 5) := (by rw [show wdL b 2 5 = b from if_pos (by decide)]; exact iI_i64 (hb.2.1 (by decide) (by decide)))
      refine zn_setOk (v := sbV 2 b) (v' := .long (Int32.toInt64 (iI b))) (t0 := 5) C hκ hκl q (fun m9 h1 h2 => by have h3 := (narB hrg).1; simp only [narrow] at h3; simp [seenByNative, h1, h2, narrow, sbV]; injection h3) hM rfl rfl hin.1 hin.2 (show ln ≤ 2147483647 by omega) rfl rfl (by rw [hnar]; exact rfl) (by rw [hnar]; exact trivial) zy_setByte zc_setByte d (by omega) (by omega) hsz hq ?_
      rw [hnar]
      exact kk _ (sv_ok (by decide) (by decide) hin.1 hin.2 (by decide)) (Or.inr (Or.inl ⟨rfl, _, rfl, svu_at hin.1 r3 hval⟩))
    · have hout : i < 0 ∨ (ln : Int) ≤ i := by omega
      exact zn_setOut (v := sbV 2 b) (t0 := 5) C hκ hκl hT hZ (fun m9 h1 h2 => by have h3 := (narB hrg).1; simp only [narrow] at h3; simp [seenByNative, h1, h2, narrow, sbV]; injection h3) hM rfl rfl ri hout zy_setByte zc_setByte d hf hlo hsz (by omega) (by omega) (fun b => zx_widen (Nat.add_le_add_left (by decide) _) (Nat.add_le_add_left (by decide) _) (kx _ 3 b (sv_out (by decide) (by decide) hout) (by decide) (Or.inr (Or.inr (Or.inl ⟨rfl, rfl⟩)))))
  · subst r1
    by_cases hin : 0 ≤ i ∧ i < (ln : Int)
    · have hnar : narrow .float (.float (FP.i2f (iI b))) = .float (FP.i2f (iI b)) := rfl
      have hval : (FP.i2f (iI b)) = U32 (wdL b 2 6) := ((i2f_l2f (hb.2.1 (by decide) (by decide))).trans (wdl_6 (by decide)).symm)
      refine zn_setOk (v := sbV 2 b) (v' := .float (FP.i2f (iI b))) (t0 := 6) C hκ hκl q (fun m9 h1 h2 => by have h3 := (narB hrg).1; simp only [narrow] at h3; simp [seenByNative, h1, h2, narrow, sbV]; injection h3) hM rfl rfl hin.1 hin.2 (show ln ≤ 2147483647 by omega) rfl rfl (by rw [hnar]; exact rfl) (by rw [hnar]; exact trivial) zy_setByte zc_setByte d (by omega) (by omega) hsz hq ?_
      rw [hnar]
      exact kk _ (sv_ok (by decide) (by decide) hin.1 hin.2 (by decide)) (Or.inr (Or.inr (Or.inl ⟨rfl, _, rfl, svu_at hin.1 r3 hval⟩)))
    · have hout : i < 0 ∨ (ln : Int) ≤ i := by omega
      exact zn_setOut (v := sbV 2 b) (t0 := 6) C hκ hκl hT hZ (fun m9 h1 h2 => by have h3 := (narB hrg).1; simp only [narrow] at h3; simp [seenByNative, h1, h2, narrow, sbV]; injection h3) hM rfl rfl ri hout zy_setByte zc_setByte d hf hlo hsz (by omega) (by omega) (fun b => zx_widen (Nat.add_le_add_left (by decide) _) (Nat.add_le_add_left (by decide) _) (kx _ 3 b (sv_out (by decide) (by decide) hout) (by decide) (Or.inr (Or.inr (Or.inl ⟨rfl, rfl⟩)))))
  · subst r1
    by_cases hin : 0 ≤ i ∧ i < (ln : Int)
    · have hnar : narrow .double (.double (FP.i2d (iI b))) = .double (FP.i2d (iI b)) := rfl
      have hval : (FP.i2d (iI b)) = U64 (wdL b 2 7) := ((i2d_l2d (hb.2.1 (by decide) (by decide))).trans (wdl_7 (by decide)).symm)
      refine zn_setOk (v := sbV 2 b) (v' := .double (FP.i2d (iI b))) (t0 := 7) C hκ hκl q (fun m9 h1 h2 => by have h3 := (narB hrg).1; simp only [narrow] at h3; simp [seenByNative, h1, h2, narrow, sbV]; injection h3) hM rfl rfl hin.1 hin.2 (show ln ≤ 2147483647 by omega) rfl (awd1 rfl) (by rw [hnar]; exact rfl) (by rw [hnar]; exact trivial) zy_setByte zc_setByte d (by omega) (by omega) hsz hq ?_
      rw [hnar]
      exact kk _ (sv_ok (by decide) (by decide) hin.1 hin.2 (by decide)) (Or.inr (Or.inr (Or.inr (Or.inl ⟨rfl, _, rfl, svu_at hin.1 r3 hval⟩))))
    · have hout : i < 0 ∨ (ln : Int) ≤ i := by omega
      exact zn_setOut (v := sbV 2 b) (t0 := 7) C hκ hκl hT hZ (fun m9 h1 h2 => by have h3 := (narB hrg).1; simp only [narrow] at h3; simp [seenByNative, h1, h2, narrow, sbV]; injection h3) hM rfl rfl ri hout zy_setByte zc_setByte d hf hlo hsz (by omega) (by omega) (fun b => zx_widen (Nat.add_le_add_left (by decide) _) (Nat.add_le_add_left (by decide) _) (kx _ 3 b (sv_out (by decide) (by decide) hout) (by decide) (Or.inr (Or.inr (Or.inl ⟨rfl, rfl⟩)))))
  · have hx9 : xcA θ w t = θ.2.1 10 ∨ xcA θ w t = θ.2.1 13 ∨ xcA θ w t = θ.2.1 12 := by unfold xcA; split; exact Or.inl rfl; split; exact Or.inr (Or.inl rfl); exact Or.inr (Or.inr rfl)
    rcases hx9 with hx9 | hx9 | hx9 <;> rw [hx9] at hM
    · exact zn_setRef (v := sbV 2 b) (t0 := 10) C hκ hκl hT hZ (fun m9 h1 h2 => by have h3 := (narB hrg).1; simp only [narrow] at h3; simp [seenByNative, h1, h2, narrow, sbV]; injection h3) hM rfl rfl zy_setByte zc_setByte d hf hlo hsz (by omega) (by omega) (fun b => zx_widen (Nat.add_le_add_left (by decide) _) (Nat.add_le_add_left (by decide) _) (kx _ 2 b (sv_ref (by decide) r1) (by decide) (Or.inr (Or.inl ⟨rfl, rfl⟩))))
    · exact zn_setRef (v := sbV 2 b) (t0 := 13) C hκ hκl hT hZ (fun m9 h1 h2 => by have h3 := (narB hrg).1; simp only [narrow] at h3; simp [seenByNative, h1, h2, narrow, sbV]; injection h3) hM rfl rfl zy_setByte zc_setByte d hf hlo hsz (by omega) (by omega) (fun b => zx_widen (Nat.add_le_add_left (by decide) _) (Nat.add_le_add_left (by decide) _) (kx _ 2 b (sv_ref (by decide) r1) (by decide) (Or.inr (Or.inl ⟨rfl, rfl⟩))))
    · exact zn_setRef (v := sbV 2 b) (t0 := 12) C hκ hκl hT hZ (fun m9 h1 h2 => by have h3 := (narB hrg).1; simp only [narrow] at h3; simp [seenByNative, h1, h2, narrow, sbV]; injection h3) hM rfl rfl zy_setByte zc_setByte d hf hlo hsz (by omega) (by omega) (fun b => zx_widen (Nat.add_le_add_left (by decide) _) (Nat.add_le_add_left (by decide) _) (kx _ 2 b (sv_ref (by decide) r1) (by decide) (Or.inr (Or.inl ⟨rfl, rfl⟩))))
theorem x_sv3 (C : ZC κ "ReflectMirror" nm cc nL ret rm P) (hκ : κ.1 = θ) (hκl : κ.2.2.1 = l) (hT : zTb θ) (hZ : zTx θ l) (q : Nat) (hM : M a = some e) (hr : xRow θ σ w t ln v e) (hb : xVok 3 b) (hrg : -32768 ≤ b ∧ b ≤ 32767) (hln : ln ≤ 1000) (ri : inR i) (d : decode cc pc = .ok (.invokestatic 152, 3)) (hf : 9 ≤ rm.frames) (hlo : 10250 ≤ rm.locals) (hsz : (rest.map fun v => v.category).sum ≤ 8) (hce : n + 3 ≤ rm.cells) (hsl : k + 210 ≤ rm.slots) (hq : pc + 3 = q) (kk : ∀ e' : va_E, svE t ln i 3 = 0 → xRow θ σ w t ln (svU v i (wdL b 3 t)) e' → Z κ (zP θ (zup M a e') N) n k q lv rest) (kx : ∀ (E : String) (c : Int) (b : Nat), svE t ln i 3 = c → c ≠ 0 → xEz E c → zX κ (zP θ M N) (n + 3) (k + 210) pc lv b E) : Z κ (zP θ M N) n k pc lv (sbV 3 b :: .int (iI i) :: .ref a :: rest) := by
  rcases hr with ⟨r1, r2, f, rfl, r3⟩ | ⟨r1, f, rfl, r3⟩ | ⟨r1, f, rfl, r3⟩ | ⟨r1, f, rfl, r3⟩ | ⟨r1, f, rfl, r3⟩
  · rcases (show t = 0 ∨ t = 1 ∨ t = 2 ∨ t = 3 ∨ t = 4 by omega) with rfl | rfl | rfl | rfl | rfl
    · by_cases hin : 0 ≤ i ∧ i < (ln : Int)
      · exact zn_setMis (v := sbV 3 b) (t0 := 0) C hκ hκl hT hZ (fun m9 h1 h2 => by have h3 := (narS hrg).1; simp only [narrow] at h3; simp [seenByNative, h1, h2, narrow, sbV]; injection h3) hM rfl rfl hin.1 hin.2 (show ln ≤ 2147483647 by omega) rfl zy_setShort zc_setShort d hf hlo hsz (by omega) (by omega) (fun b => zx_widen (Nat.add_le_add_left (by decide) _) (Nat.add_le_add_left (by decide) _) (kx _ 2 b (sv_mis (by decide) (by decide) hin.1 hin.2 (by decide)) (by decide) (Or.inr (Or.inl ⟨rfl, rfl⟩))))
      · have hout : i < 0 ∨ (ln : Int) ≤ i := by omega
        exact zn_setOut (v := sbV 3 b) (t0 := 0) C hκ hκl hT hZ (fun m9 h1 h2 => by have h3 := (narS hrg).1; simp only [narrow] at h3; simp [seenByNative, h1, h2, narrow, sbV]; injection h3) hM rfl rfl ri hout zy_setShort zc_setShort d hf hlo hsz (by omega) (by omega) (fun b => zx_widen (Nat.add_le_add_left (by decide) _) (Nat.add_le_add_left (by decide) _) (kx _ 3 b (sv_out (by decide) (by decide) hout) (by decide) (Or.inr (Or.inr (Or.inl ⟨rfl, rfl⟩)))))
    · by_cases hin : 0 ≤ i ∧ i < (ln : Int)
      · exact zn_setMis (v := sbV 3 b) (t0 := 1) C hκ hκl hT hZ (fun m9 h1 h2 => by have h3 := (narS hrg).1; simp only [narrow] at h3; simp [seenByNative, h1, h2, narrow, sbV]; injection h3) hM rfl rfl hin.1 hin.2 (show ln ≤ 2147483647 by omega) rfl zy_setShort zc_setShort d hf hlo hsz (by omega) (by omega) (fun b => zx_widen (Nat.add_le_add_left (by decide) _) (Nat.add_le_add_left (by decide) _) (kx _ 2 b (sv_mis (by decide) (by decide) hin.1 hin.2 (by decide)) (by decide) (Or.inr (Or.inl ⟨rfl, rfl⟩))))
      · have hout : i < 0 ∨ (ln : Int) ≤ i := by omega
        exact zn_setOut (v := sbV 3 b) (t0 := 1) C hκ hκl hT hZ (fun m9 h1 h2 => by have h3 := (narS hrg).1; simp only [narrow] at h3; simp [seenByNative, h1, h2, narrow, sbV]; injection h3) hM rfl rfl ri hout zy_setShort zc_setShort d hf hlo hsz (by omega) (by omega) (fun b => zx_widen (Nat.add_le_add_left (by decide) _) (Nat.add_le_add_left (by decide) _) (kx _ 3 b (sv_out (by decide) (by decide) hout) (by decide) (Or.inr (Or.inr (Or.inl ⟨rfl, rfl⟩)))))
    · by_cases hin : 0 ≤ i ∧ i < (ln : Int)
      · exact zn_setMis (v := sbV 3 b) (t0 := 2) C hκ hκl hT hZ (fun m9 h1 h2 => by have h3 := (narS hrg).1; simp only [narrow] at h3; simp [seenByNative, h1, h2, narrow, sbV]; injection h3) hM rfl rfl hin.1 hin.2 (show ln ≤ 2147483647 by omega) rfl zy_setShort zc_setShort d hf hlo hsz (by omega) (by omega) (fun b => zx_widen (Nat.add_le_add_left (by decide) _) (Nat.add_le_add_left (by decide) _) (kx _ 2 b (sv_mis (by decide) (by decide) hin.1 hin.2 (by decide)) (by decide) (Or.inr (Or.inl ⟨rfl, rfl⟩))))
      · have hout : i < 0 ∨ (ln : Int) ≤ i := by omega
        exact zn_setOut (v := sbV 3 b) (t0 := 2) C hκ hκl hT hZ (fun m9 h1 h2 => by have h3 := (narS hrg).1; simp only [narrow] at h3; simp [seenByNative, h1, h2, narrow, sbV]; injection h3) hM rfl rfl ri hout zy_setShort zc_setShort d hf hlo hsz (by omega) (by omega) (fun b => zx_widen (Nat.add_le_add_left (by decide) _) (Nat.add_le_add_left (by decide) _) (kx _ 3 b (sv_out (by decide) (by decide) hout) (by decide) (Or.inr (Or.inr (Or.inl ⟨rfl, rfl⟩)))))
    · by_cases hin : 0 ≤ i ∧ i < (ln : Int)
      · have hnar : narrow .short (.int (iI b)) = .int (iI b) := (narS hrg).1
        have hval : (iI b) = iI (wdL b 3 3) := (by rw [show wdL b 3 3 = b from if_pos (by decide)])
        refine zn_setOk (v := sbV 3 b) (v' := .int (iI b)) (t0 := 3) C hκ hκl q (fun m9 h1 h2 => by have h3 := (narS hrg).1; simp only [narrow] at h3; simp [seenByNative, h1, h2, narrow, sbV]; injection h3) hM rfl rfl hin.1 hin.2 (show ln ≤ 2147483647 by omega) rfl rfl (by rw [hnar]; exact (narS hrg).2) (by rw [hnar]; exact trivial) zy_setShort zc_setShort d (by omega) (by omega) hsz hq ?_
        rw [hnar]
        exact kk _ (sv_ok (by decide) (by decide) hin.1 hin.2 (by decide)) (Or.inl ⟨by decide, by decide, _, rfl, svu_at hin.1 r3 hval⟩)
      · have hout : i < 0 ∨ (ln : Int) ≤ i := by omega
        exact zn_setOut (v := sbV 3 b) (t0 := 3) C hκ hκl hT hZ (fun m9 h1 h2 => by have h3 := (narS hrg).1; simp only [narrow] at h3; simp [seenByNative, h1, h2, narrow, sbV]; injection h3) hM rfl rfl ri hout zy_setShort zc_setShort d hf hlo hsz (by omega) (by omega) (fun b => zx_widen (Nat.add_le_add_left (by decide) _) (Nat.add_le_add_left (by decide) _) (kx _ 3 b (sv_out (by decide) (by decide) hout) (by decide) (Or.inr (Or.inr (Or.inl ⟨rfl, rfl⟩)))))
    · by_cases hin : 0 ≤ i ∧ i < (ln : Int)
      · have hnar : narrow .int (.int (iI b)) = .int (iI b) := rfl
        have hval : (iI b) = iI (wdL b 3 4) := (by rw [show wdL b 3 4 = b from if_pos (by decide)])
        refine zn_setOk (v := sbV 3 b) (v' := .int (iI b)) (t0 := 4) C hκ hκl q (fun m9 h1 h2 => by have h3 := (narS hrg).1; simp only [narrow] at h3; simp [seenByNative, h1, h2, narrow, sbV]; injection h3) hM rfl rfl hin.1 hin.2 (show ln ≤ 2147483647 by omega) rfl rfl (by rw [hnar]; exact rfl) (by rw [hnar]; exact trivial) zy_setShort zc_setShort d (by omega) (by omega) hsz hq ?_
        rw [hnar]
        exact kk _ (sv_ok (by decide) (by decide) hin.1 hin.2 (by decide)) (Or.inl ⟨by decide, by decide, _, rfl, svu_at hin.1 r3 hval⟩)
      · have hout : i < 0 ∨ (ln : Int) ≤ i := by omega
        exact zn_setOut (v := sbV 3 b) (t0 := 4) C hκ hκl hT hZ (fun m9 h1 h2 => by have h3 := (narS hrg).1; simp only [narrow] at h3; simp [seenByNative, h1, h2, narrow, sbV]; injection h3) hM rfl rfl ri hout zy_setShort zc_setShort d hf hlo hsz (by omega) (by omega) (fun b => zx_widen (Nat.add_le_add_left (by decide) _) (Nat.add_le_add_left (by decide) _) (kx _ 3 b (sv_out (by decide) (by decide) hout) (by decide) (Or.inr (Or.inr (Or.inl ⟨rfl, rfl⟩)))))
  · subst r1
    by_cases hin : 0 ≤ i ∧ i < (ln : Int)
    · have hnar : narrow .long (.long (Int32.toInt64 (iI b))) = .long (Int32.toInt64 (iI b)) := rfl
      have hval : (Int32.toInt64 (iI b)) = lI (wdL b 3 5) := (by rw [show wdL b 3 5 = b from if_pos (by decide)]; exact iI_i64 (hb.2.1 (by decide) (by decide)))
      refine zn_setOk (v := sbV 3 b) (v' := .long (Int32.toInt64 (iI b))) (t0 := 5) C hκ hκl q (fun m9 h1 h2 => by have h3 := (narS hrg).1; simp only [narrow] at h3; simp [seenByNative, h1, h2, narrow, sbV]; injection h3) hM rfl rfl hin.1 hin.2 (show ln ≤ 2147483647 by omega) rfl rfl (by rw [hnar]; exact rfl) (by rw [hnar]; exact trivial) zy_setShort zc_setShort d (by omega) (by omega) hsz hq ?_
      rw [hnar]
      exact kk _ (sv_ok (by decide) (by decide) hin.1 hin.2 (by decide)) (Or.inr (Or.inl ⟨rfl, _, rfl, svu_at hin.1 r3 hval⟩))
    · have hout : i < 0 ∨ (ln : Int) ≤ i := by omega
      exact zn_setOut (v := sbV 3 b) (t0 := 5) C hκ hκl hT hZ (fun m9 h1 h2 => by have h3 := (narS hrg).1; simp only [narrow] at h3; simp [seenByNative, h1, h2, narrow, sbV]; injection h3) hM rfl rfl ri hout zy_setShort zc_setShort d hf hlo hsz (by omega) (by omega) (fun b => zx_widen (Nat.add_le_add_left (by decide) _) (Nat.add_le_add_left (by decide) _) (kx _ 3 b (sv_out (by decide) (by decide) hout) (by decide) (Or.inr (Or.inr (Or.inl ⟨rfl, rfl⟩)))))
  · subst r1
    by_cases hin : 0 ≤ i ∧ i < (ln : Int)
    · have hnar : narrow .float (.float (FP.i2f (iI b))) = .float (FP.i2f (iI b)) := rfl
      have hval : (FP.i2f (iI b)) = U32 (wdL b 3 6) := ((i2f_l2f (hb.2.1 (by decide) (by decide))).trans (wdl_6 (by decide)).symm)
      refine zn_setOk (v := sbV 3 b) (v' := .float (FP.i2f (iI b))) (t0 := 6) C hκ hκl q (fun m9 h1 h2 => by have h3 := (narS hrg).1; simp only [narrow] at h3; simp [seenByNative, h1, h2, narrow, sbV]; injection h3) hM rfl rfl hin.1 hin.2 (show ln ≤ 2147483647 by omega) rfl rfl (by rw [hnar]; exact rfl) (by rw [hnar]; exact trivial) zy_setShort zc_setShort d (by omega) (by omega) hsz hq ?_
      rw [hnar]
      exact kk _ (sv_ok (by decide) (by decide) hin.1 hin.2 (by decide)) (Or.inr (Or.inr (Or.inl ⟨rfl, _, rfl, svu_at hin.1 r3 hval⟩)))
    · have hout : i < 0 ∨ (ln : Int) ≤ i := by omega
      exact zn_setOut (v := sbV 3 b) (t0 := 6) C hκ hκl hT hZ (fun m9 h1 h2 => by have h3 := (narS hrg).1; simp only [narrow] at h3; simp [seenByNative, h1, h2, narrow, sbV]; injection h3) hM rfl rfl ri hout zy_setShort zc_setShort d hf hlo hsz (by omega) (by omega) (fun b => zx_widen (Nat.add_le_add_left (by decide) _) (Nat.add_le_add_left (by decide) _) (kx _ 3 b (sv_out (by decide) (by decide) hout) (by decide) (Or.inr (Or.inr (Or.inl ⟨rfl, rfl⟩)))))
  · subst r1
    by_cases hin : 0 ≤ i ∧ i < (ln : Int)
    · have hnar : narrow .double (.double (FP.i2d (iI b))) = .double (FP.i2d (iI b)) := rfl
      have hval : (FP.i2d (iI b)) = U64 (wdL b 3 7) := ((i2d_l2d (hb.2.1 (by decide) (by decide))).trans (wdl_7 (by decide)).symm)
      refine zn_setOk (v := sbV 3 b) (v' := .double (FP.i2d (iI b))) (t0 := 7) C hκ hκl q (fun m9 h1 h2 => by have h3 := (narS hrg).1; simp only [narrow] at h3; simp [seenByNative, h1, h2, narrow, sbV]; injection h3) hM rfl rfl hin.1 hin.2 (show ln ≤ 2147483647 by omega) rfl (awd1 rfl) (by rw [hnar]; exact rfl) (by rw [hnar]; exact trivial) zy_setShort zc_setShort d (by omega) (by omega) hsz hq ?_
      rw [hnar]
      exact kk _ (sv_ok (by decide) (by decide) hin.1 hin.2 (by decide)) (Or.inr (Or.inr (Or.inr (Or.inl ⟨rfl, _, rfl, svu_at hin.1 r3 hval⟩))))
    · have hout : i < 0 ∨ (ln : Int) ≤ i := by omega
      exact zn_setOut (v := sbV 3 b) (t0 := 7) C hκ hκl hT hZ (fun m9 h1 h2 => by have h3 := (narS hrg).1; simp only [narrow] at h3; simp [seenByNative, h1, h2, narrow, sbV]; injection h3) hM rfl rfl ri hout zy_setShort zc_setShort d hf hlo hsz (by omega) (by omega) (fun b => zx_widen (Nat.add_le_add_left (by decide) _) (Nat.add_le_add_left (by decide) _) (kx _ 3 b (sv_out (by decide) (by decide) hout) (by decide) (Or.inr (Or.inr (Or.inl ⟨rfl, rfl⟩)))))
  · have hx9 : xcA θ w t = θ.2.1 10 ∨ xcA θ w t = θ.2.1 13 ∨ xcA θ w t = θ.2.1 12 := by unfold xcA; split; exact Or.inl rfl; split; exact Or.inr (Or.inl rfl); exact Or.inr (Or.inr rfl)
    rcases hx9 with hx9 | hx9 | hx9 <;> rw [hx9] at hM
    · exact zn_setRef (v := sbV 3 b) (t0 := 10) C hκ hκl hT hZ (fun m9 h1 h2 => by have h3 := (narS hrg).1; simp only [narrow] at h3; simp [seenByNative, h1, h2, narrow, sbV]; injection h3) hM rfl rfl zy_setShort zc_setShort d hf hlo hsz (by omega) (by omega) (fun b => zx_widen (Nat.add_le_add_left (by decide) _) (Nat.add_le_add_left (by decide) _) (kx _ 2 b (sv_ref (by decide) r1) (by decide) (Or.inr (Or.inl ⟨rfl, rfl⟩))))
    · exact zn_setRef (v := sbV 3 b) (t0 := 13) C hκ hκl hT hZ (fun m9 h1 h2 => by have h3 := (narS hrg).1; simp only [narrow] at h3; simp [seenByNative, h1, h2, narrow, sbV]; injection h3) hM rfl rfl zy_setShort zc_setShort d hf hlo hsz (by omega) (by omega) (fun b => zx_widen (Nat.add_le_add_left (by decide) _) (Nat.add_le_add_left (by decide) _) (kx _ 2 b (sv_ref (by decide) r1) (by decide) (Or.inr (Or.inl ⟨rfl, rfl⟩))))
    · exact zn_setRef (v := sbV 3 b) (t0 := 12) C hκ hκl hT hZ (fun m9 h1 h2 => by have h3 := (narS hrg).1; simp only [narrow] at h3; simp [seenByNative, h1, h2, narrow, sbV]; injection h3) hM rfl rfl zy_setShort zc_setShort d hf hlo hsz (by omega) (by omega) (fun b => zx_widen (Nat.add_le_add_left (by decide) _) (Nat.add_le_add_left (by decide) _) (kx _ 2 b (sv_ref (by decide) r1) (by decide) (Or.inr (Or.inl ⟨rfl, rfl⟩))))
theorem x_sv4 (C : ZC κ "ReflectMirror" nm cc nL ret rm P) (hκ : κ.1 = θ) (hκl : κ.2.2.1 = l) (hT : zTb θ) (hZ : zTx θ l) (q : Nat) (hM : M a = some e) (hr : xRow θ σ w t ln v e) (hb : xVok 4 b) (hln : ln ≤ 1000) (ri : inR i) (d : decode cc pc = .ok (.invokestatic 156, 3)) (hf : 9 ≤ rm.frames) (hlo : 10250 ≤ rm.locals) (hsz : (rest.map fun v => v.category).sum ≤ 8) (hce : n + 3 ≤ rm.cells) (hsl : k + 210 ≤ rm.slots) (hq : pc + 3 = q) (kk : ∀ e' : va_E, svE t ln i 4 = 0 → xRow θ σ w t ln (svU v i (wdL b 4 t)) e' → Z κ (zP θ (zup M a e') N) n k q lv rest) (kx : ∀ (E : String) (c : Int) (b : Nat), svE t ln i 4 = c → c ≠ 0 → xEz E c → zX κ (zP θ M N) (n + 3) (k + 210) pc lv b E) : Z κ (zP θ M N) n k pc lv (sbV 4 b :: .int (iI i) :: .ref a :: rest) := by
  rcases hr with ⟨r1, r2, f, rfl, r3⟩ | ⟨r1, f, rfl, r3⟩ | ⟨r1, f, rfl, r3⟩ | ⟨r1, f, rfl, r3⟩ | ⟨r1, f, rfl, r3⟩
  · rcases (show t = 0 ∨ t = 1 ∨ t = 2 ∨ t = 3 ∨ t = 4 by omega) with rfl | rfl | rfl | rfl | rfl
    · by_cases hin : 0 ≤ i ∧ i < (ln : Int)
      · exact zn_setMis (v := sbV 4 b) (t0 := 0) C hκ hκl hT hZ (fun m9 h1 h2 => by simp [seenByNative, h1, h2, narrow, sbV]) hM rfl rfl hin.1 hin.2 (show ln ≤ 2147483647 by omega) rfl zy_setInt zc_setInt d hf hlo hsz (by omega) (by omega) (fun b => zx_widen (Nat.add_le_add_left (by decide) _) (Nat.add_le_add_left (by decide) _) (kx _ 2 b (sv_mis (by decide) (by decide) hin.1 hin.2 (by decide)) (by decide) (Or.inr (Or.inl ⟨rfl, rfl⟩))))
      · have hout : i < 0 ∨ (ln : Int) ≤ i := by omega
        exact zn_setOut (v := sbV 4 b) (t0 := 0) C hκ hκl hT hZ (fun m9 h1 h2 => by simp [seenByNative, h1, h2, narrow, sbV]) hM rfl rfl ri hout zy_setInt zc_setInt d hf hlo hsz (by omega) (by omega) (fun b => zx_widen (Nat.add_le_add_left (by decide) _) (Nat.add_le_add_left (by decide) _) (kx _ 3 b (sv_out (by decide) (by decide) hout) (by decide) (Or.inr (Or.inr (Or.inl ⟨rfl, rfl⟩)))))
    · by_cases hin : 0 ≤ i ∧ i < (ln : Int)
      · exact zn_setMis (v := sbV 4 b) (t0 := 1) C hκ hκl hT hZ (fun m9 h1 h2 => by simp [seenByNative, h1, h2, narrow, sbV]) hM rfl rfl hin.1 hin.2 (show ln ≤ 2147483647 by omega) rfl zy_setInt zc_setInt d hf hlo hsz (by omega) (by omega) (fun b => zx_widen (Nat.add_le_add_left (by decide) _) (Nat.add_le_add_left (by decide) _) (kx _ 2 b (sv_mis (by decide) (by decide) hin.1 hin.2 (by decide)) (by decide) (Or.inr (Or.inl ⟨rfl, rfl⟩))))
      · have hout : i < 0 ∨ (ln : Int) ≤ i := by omega
        exact zn_setOut (v := sbV 4 b) (t0 := 1) C hκ hκl hT hZ (fun m9 h1 h2 => by simp [seenByNative, h1, h2, narrow, sbV]) hM rfl rfl ri hout zy_setInt zc_setInt d hf hlo hsz (by omega) (by omega) (fun b => zx_widen (Nat.add_le_add_left (by decide) _) (Nat.add_le_add_left (by decide) _) (kx _ 3 b (sv_out (by decide) (by decide) hout) (by decide) (Or.inr (Or.inr (Or.inl ⟨rfl, rfl⟩)))))
    · by_cases hin : 0 ≤ i ∧ i < (ln : Int)
      · exact zn_setMis (v := sbV 4 b) (t0 := 2) C hκ hκl hT hZ (fun m9 h1 h2 => by simp [seenByNative, h1, h2, narrow, sbV]) hM rfl rfl hin.1 hin.2 (show ln ≤ 2147483647 by omega) rfl zy_setInt zc_setInt d hf hlo hsz (by omega) (by omega) (fun b => zx_widen (Nat.add_le_add_left (by decide) _) (Nat.add_le_add_left (by decide) _) (kx _ 2 b (sv_mis (by decide) (by decide) hin.1 hin.2 (by decide)) (by decide) (Or.inr (Or.inl ⟨rfl, rfl⟩))))
      · have hout : i < 0 ∨ (ln : Int) ≤ i := by omega
        exact zn_setOut (v := sbV 4 b) (t0 := 2) C hκ hκl hT hZ (fun m9 h1 h2 => by simp [seenByNative, h1, h2, narrow, sbV]) hM rfl rfl ri hout zy_setInt zc_setInt d hf hlo hsz (by omega) (by omega) (fun b => zx_widen (Nat.add_le_add_left (by decide) _) (Nat.add_le_add_left (by decide) _) (kx _ 3 b (sv_out (by decide) (by decide) hout) (by decide) (Or.inr (Or.inr (Or.inl ⟨rfl, rfl⟩)))))
    · by_cases hin : 0 ≤ i ∧ i < (ln : Int)
      · exact zn_setMis (v := sbV 4 b) (t0 := 3) C hκ hκl hT hZ (fun m9 h1 h2 => by simp [seenByNative, h1, h2, narrow, sbV]) hM rfl rfl hin.1 hin.2 (show ln ≤ 2147483647 by omega) rfl zy_setInt zc_setInt d hf hlo hsz (by omega) (by omega) (fun b => zx_widen (Nat.add_le_add_left (by decide) _) (Nat.add_le_add_left (by decide) _) (kx _ 2 b (sv_mis (by decide) (by decide) hin.1 hin.2 (by decide)) (by decide) (Or.inr (Or.inl ⟨rfl, rfl⟩))))
      · have hout : i < 0 ∨ (ln : Int) ≤ i := by omega
        exact zn_setOut (v := sbV 4 b) (t0 := 3) C hκ hκl hT hZ (fun m9 h1 h2 => by simp [seenByNative, h1, h2, narrow, sbV]) hM rfl rfl ri hout zy_setInt zc_setInt d hf hlo hsz (by omega) (by omega) (fun b => zx_widen (Nat.add_le_add_left (by decide) _) (Nat.add_le_add_left (by decide) _) (kx _ 3 b (sv_out (by decide) (by decide) hout) (by decide) (Or.inr (Or.inr (Or.inl ⟨rfl, rfl⟩)))))
    · by_cases hin : 0 ≤ i ∧ i < (ln : Int)
      · have hnar : narrow .int (.int (iI b)) = .int (iI b) := rfl
        have hval : (iI b) = iI (wdL b 4 4) := (by rw [show wdL b 4 4 = b from if_pos (by decide)])
        refine zn_setOk (v := sbV 4 b) (v' := .int (iI b)) (t0 := 4) C hκ hκl q (fun m9 h1 h2 => by simp [seenByNative, h1, h2, narrow, sbV]) hM rfl rfl hin.1 hin.2 (show ln ≤ 2147483647 by omega) rfl rfl (by rw [hnar]; exact rfl) (by rw [hnar]; exact trivial) zy_setInt zc_setInt d (by omega) (by omega) hsz hq ?_
        rw [hnar]
        exact kk _ (sv_ok (by decide) (by decide) hin.1 hin.2 (by decide)) (Or.inl ⟨by decide, by decide, _, rfl, svu_at hin.1 r3 hval⟩)
      · have hout : i < 0 ∨ (ln : Int) ≤ i := by omega
        exact zn_setOut (v := sbV 4 b) (t0 := 4) C hκ hκl hT hZ (fun m9 h1 h2 => by simp [seenByNative, h1, h2, narrow, sbV]) hM rfl rfl ri hout zy_setInt zc_setInt d hf hlo hsz (by omega) (by omega) (fun b => zx_widen (Nat.add_le_add_left (by decide) _) (Nat.add_le_add_left (by decide) _) (kx _ 3 b (sv_out (by decide) (by decide) hout) (by decide) (Or.inr (Or.inr (Or.inl ⟨rfl, rfl⟩)))))
  · subst r1
    by_cases hin : 0 ≤ i ∧ i < (ln : Int)
    · have hnar : narrow .long (.long (Int32.toInt64 (iI b))) = .long (Int32.toInt64 (iI b)) := rfl
      have hval : (Int32.toInt64 (iI b)) = lI (wdL b 4 5) := (by rw [show wdL b 4 5 = b from if_pos (by decide)]; exact iI_i64 (hb.2.1 (by decide) (by decide)))
      refine zn_setOk (v := sbV 4 b) (v' := .long (Int32.toInt64 (iI b))) (t0 := 5) C hκ hκl q (fun m9 h1 h2 => by simp [seenByNative, h1, h2, narrow, sbV]) hM rfl rfl hin.1 hin.2 (show ln ≤ 2147483647 by omega) rfl rfl (by rw [hnar]; exact rfl) (by rw [hnar]; exact trivial) zy_setInt zc_setInt d (by omega) (by omega) hsz hq ?_
      rw [hnar]
      exact kk _ (sv_ok (by decide) (by decide) hin.1 hin.2 (by decide)) (Or.inr (Or.inl ⟨rfl, _, rfl, svu_at hin.1 r3 hval⟩))
    · have hout : i < 0 ∨ (ln : Int) ≤ i := by omega
      exact zn_setOut (v := sbV 4 b) (t0 := 5) C hκ hκl hT hZ (fun m9 h1 h2 => by simp [seenByNative, h1, h2, narrow, sbV]) hM rfl rfl ri hout zy_setInt zc_setInt d hf hlo hsz (by omega) (by omega) (fun b => zx_widen (Nat.add_le_add_left (by decide) _) (Nat.add_le_add_left (by decide) _) (kx _ 3 b (sv_out (by decide) (by decide) hout) (by decide) (Or.inr (Or.inr (Or.inl ⟨rfl, rfl⟩)))))
  · subst r1
    by_cases hin : 0 ≤ i ∧ i < (ln : Int)
    · have hnar : narrow .float (.float (FP.i2f (iI b))) = .float (FP.i2f (iI b)) := rfl
      have hval : (FP.i2f (iI b)) = U32 (wdL b 4 6) := ((i2f_l2f (hb.2.1 (by decide) (by decide))).trans (wdl_6 (by decide)).symm)
      refine zn_setOk (v := sbV 4 b) (v' := .float (FP.i2f (iI b))) (t0 := 6) C hκ hκl q (fun m9 h1 h2 => by simp [seenByNative, h1, h2, narrow, sbV]) hM rfl rfl hin.1 hin.2 (show ln ≤ 2147483647 by omega) rfl rfl (by rw [hnar]; exact rfl) (by rw [hnar]; exact trivial) zy_setInt zc_setInt d (by omega) (by omega) hsz hq ?_
      rw [hnar]
      exact kk _ (sv_ok (by decide) (by decide) hin.1 hin.2 (by decide)) (Or.inr (Or.inr (Or.inl ⟨rfl, _, rfl, svu_at hin.1 r3 hval⟩)))
    · have hout : i < 0 ∨ (ln : Int) ≤ i := by omega
      exact zn_setOut (v := sbV 4 b) (t0 := 6) C hκ hκl hT hZ (fun m9 h1 h2 => by simp [seenByNative, h1, h2, narrow, sbV]) hM rfl rfl ri hout zy_setInt zc_setInt d hf hlo hsz (by omega) (by omega) (fun b => zx_widen (Nat.add_le_add_left (by decide) _) (Nat.add_le_add_left (by decide) _) (kx _ 3 b (sv_out (by decide) (by decide) hout) (by decide) (Or.inr (Or.inr (Or.inl ⟨rfl, rfl⟩)))))
  · subst r1
    by_cases hin : 0 ≤ i ∧ i < (ln : Int)
    · have hnar : narrow .double (.double (FP.i2d (iI b))) = .double (FP.i2d (iI b)) := rfl
      have hval : (FP.i2d (iI b)) = U64 (wdL b 4 7) := ((i2d_l2d (hb.2.1 (by decide) (by decide))).trans (wdl_7 (by decide)).symm)
      refine zn_setOk (v := sbV 4 b) (v' := .double (FP.i2d (iI b))) (t0 := 7) C hκ hκl q (fun m9 h1 h2 => by simp [seenByNative, h1, h2, narrow, sbV]) hM rfl rfl hin.1 hin.2 (show ln ≤ 2147483647 by omega) rfl (awd1 rfl) (by rw [hnar]; exact rfl) (by rw [hnar]; exact trivial) zy_setInt zc_setInt d (by omega) (by omega) hsz hq ?_
      rw [hnar]
      exact kk _ (sv_ok (by decide) (by decide) hin.1 hin.2 (by decide)) (Or.inr (Or.inr (Or.inr (Or.inl ⟨rfl, _, rfl, svu_at hin.1 r3 hval⟩))))
    · have hout : i < 0 ∨ (ln : Int) ≤ i := by omega
      exact zn_setOut (v := sbV 4 b) (t0 := 7) C hκ hκl hT hZ (fun m9 h1 h2 => by simp [seenByNative, h1, h2, narrow, sbV]) hM rfl rfl ri hout zy_setInt zc_setInt d hf hlo hsz (by omega) (by omega) (fun b => zx_widen (Nat.add_le_add_left (by decide) _) (Nat.add_le_add_left (by decide) _) (kx _ 3 b (sv_out (by decide) (by decide) hout) (by decide) (Or.inr (Or.inr (Or.inl ⟨rfl, rfl⟩)))))
  · have hx9 : xcA θ w t = θ.2.1 10 ∨ xcA θ w t = θ.2.1 13 ∨ xcA θ w t = θ.2.1 12 := by unfold xcA; split; exact Or.inl rfl; split; exact Or.inr (Or.inl rfl); exact Or.inr (Or.inr rfl)
    rcases hx9 with hx9 | hx9 | hx9 <;> rw [hx9] at hM
    · exact zn_setRef (v := sbV 4 b) (t0 := 10) C hκ hκl hT hZ (fun m9 h1 h2 => by simp [seenByNative, h1, h2, narrow, sbV]) hM rfl rfl zy_setInt zc_setInt d hf hlo hsz (by omega) (by omega) (fun b => zx_widen (Nat.add_le_add_left (by decide) _) (Nat.add_le_add_left (by decide) _) (kx _ 2 b (sv_ref (by decide) r1) (by decide) (Or.inr (Or.inl ⟨rfl, rfl⟩))))
    · exact zn_setRef (v := sbV 4 b) (t0 := 13) C hκ hκl hT hZ (fun m9 h1 h2 => by simp [seenByNative, h1, h2, narrow, sbV]) hM rfl rfl zy_setInt zc_setInt d hf hlo hsz (by omega) (by omega) (fun b => zx_widen (Nat.add_le_add_left (by decide) _) (Nat.add_le_add_left (by decide) _) (kx _ 2 b (sv_ref (by decide) r1) (by decide) (Or.inr (Or.inl ⟨rfl, rfl⟩))))
    · exact zn_setRef (v := sbV 4 b) (t0 := 12) C hκ hκl hT hZ (fun m9 h1 h2 => by simp [seenByNative, h1, h2, narrow, sbV]) hM rfl rfl zy_setInt zc_setInt d hf hlo hsz (by omega) (by omega) (fun b => zx_widen (Nat.add_le_add_left (by decide) _) (Nat.add_le_add_left (by decide) _) (kx _ 2 b (sv_ref (by decide) r1) (by decide) (Or.inr (Or.inl ⟨rfl, rfl⟩))))
theorem x_sv5 (C : ZC κ "ReflectMirror" nm cc nL ret rm P) (hκ : κ.1 = θ) (hκl : κ.2.2.1 = l) (hT : zTb θ) (hZ : zTx θ l) (q : Nat) (hM : M a = some e) (hr : xRow θ σ w t ln v e) (hb : xVok 5 b) (hln : ln ≤ 1000) (ri : inR i) (d : decode cc pc = .ok (.invokestatic 160, 3)) (hf : 9 ≤ rm.frames) (hlo : 10250 ≤ rm.locals) (hsz : (rest.map fun v => v.category).sum ≤ 8) (hce : n + 3 ≤ rm.cells) (hsl : k + 210 ≤ rm.slots) (hq : pc + 3 = q) (kk : ∀ e' : va_E, svE t ln i 5 = 0 → xRow θ σ w t ln (svU v i (wdL b 5 t)) e' → Z κ (zP θ (zup M a e') N) n k q lv rest) (kx : ∀ (E : String) (c : Int) (b : Nat), svE t ln i 5 = c → c ≠ 0 → xEz E c → zX κ (zP θ M N) (n + 3) (k + 210) pc lv b E) : Z κ (zP θ M N) n k pc lv (sbV 5 b :: .int (iI i) :: .ref a :: rest) := by
  rcases hr with ⟨r1, r2, f, rfl, r3⟩ | ⟨r1, f, rfl, r3⟩ | ⟨r1, f, rfl, r3⟩ | ⟨r1, f, rfl, r3⟩ | ⟨r1, f, rfl, r3⟩
  · rcases (show t = 0 ∨ t = 1 ∨ t = 2 ∨ t = 3 ∨ t = 4 by omega) with rfl | rfl | rfl | rfl | rfl
    · by_cases hin : 0 ≤ i ∧ i < (ln : Int)
      · exact zn_setMis (v := sbV 5 b) (t0 := 0) C hκ hκl hT hZ (fun m9 h1 h2 => by simp [seenByNative, h1, h2, narrow, sbV]) hM rfl rfl hin.1 hin.2 (show ln ≤ 2147483647 by omega) rfl zy_setLong zc_setLong d hf hlo hsz (by omega) (by omega) (fun b => zx_widen (Nat.add_le_add_left (by decide) _) (Nat.add_le_add_left (by decide) _) (kx _ 2 b (sv_mis (by decide) (by decide) hin.1 hin.2 (by decide)) (by decide) (Or.inr (Or.inl ⟨rfl, rfl⟩))))
      · have hout : i < 0 ∨ (ln : Int) ≤ i := by omega
        exact zn_setOut (v := sbV 5 b) (t0 := 0) C hκ hκl hT hZ (fun m9 h1 h2 => by simp [seenByNative, h1, h2, narrow, sbV]) hM rfl rfl ri hout zy_setLong zc_setLong d hf hlo hsz (by omega) (by omega) (fun b => zx_widen (Nat.add_le_add_left (by decide) _) (Nat.add_le_add_left (by decide) _) (kx _ 3 b (sv_out (by decide) (by decide) hout) (by decide) (Or.inr (Or.inr (Or.inl ⟨rfl, rfl⟩)))))
    · by_cases hin : 0 ≤ i ∧ i < (ln : Int)
      · exact zn_setMis (v := sbV 5 b) (t0 := 1) C hκ hκl hT hZ (fun m9 h1 h2 => by simp [seenByNative, h1, h2, narrow, sbV]) hM rfl rfl hin.1 hin.2 (show ln ≤ 2147483647 by omega) rfl zy_setLong zc_setLong d hf hlo hsz (by omega) (by omega) (fun b => zx_widen (Nat.add_le_add_left (by decide) _) (Nat.add_le_add_left (by decide) _) (kx _ 2 b (sv_mis (by decide) (by decide) hin.1 hin.2 (by decide)) (by decide) (Or.inr (Or.inl ⟨rfl, rfl⟩))))
      · have hout : i < 0 ∨ (ln : Int) ≤ i := by omega
        exact zn_setOut (v := sbV 5 b) (t0 := 1) C hκ hκl hT hZ (fun m9 h1 h2 => by simp [seenByNative, h1, h2, narrow, sbV]) hM rfl rfl ri hout zy_setLong zc_setLong d hf hlo hsz (by omega) (by omega) (fun b => zx_widen (Nat.add_le_add_left (by decide) _) (Nat.add_le_add_left (by decide) _) (kx _ 3 b (sv_out (by decide) (by decide) hout) (by decide) (Or.inr (Or.inr (Or.inl ⟨rfl, rfl⟩)))))
    · by_cases hin : 0 ≤ i ∧ i < (ln : Int)
      · exact zn_setMis (v := sbV 5 b) (t0 := 2) C hκ hκl hT hZ (fun m9 h1 h2 => by simp [seenByNative, h1, h2, narrow, sbV]) hM rfl rfl hin.1 hin.2 (show ln ≤ 2147483647 by omega) rfl zy_setLong zc_setLong d hf hlo hsz (by omega) (by omega) (fun b => zx_widen (Nat.add_le_add_left (by decide) _) (Nat.add_le_add_left (by decide) _) (kx _ 2 b (sv_mis (by decide) (by decide) hin.1 hin.2 (by decide)) (by decide) (Or.inr (Or.inl ⟨rfl, rfl⟩))))
      · have hout : i < 0 ∨ (ln : Int) ≤ i := by omega
        exact zn_setOut (v := sbV 5 b) (t0 := 2) C hκ hκl hT hZ (fun m9 h1 h2 => by simp [seenByNative, h1, h2, narrow, sbV]) hM rfl rfl ri hout zy_setLong zc_setLong d hf hlo hsz (by omega) (by omega) (fun b => zx_widen (Nat.add_le_add_left (by decide) _) (Nat.add_le_add_left (by decide) _) (kx _ 3 b (sv_out (by decide) (by decide) hout) (by decide) (Or.inr (Or.inr (Or.inl ⟨rfl, rfl⟩)))))
    · by_cases hin : 0 ≤ i ∧ i < (ln : Int)
      · exact zn_setMis (v := sbV 5 b) (t0 := 3) C hκ hκl hT hZ (fun m9 h1 h2 => by simp [seenByNative, h1, h2, narrow, sbV]) hM rfl rfl hin.1 hin.2 (show ln ≤ 2147483647 by omega) rfl zy_setLong zc_setLong d hf hlo hsz (by omega) (by omega) (fun b => zx_widen (Nat.add_le_add_left (by decide) _) (Nat.add_le_add_left (by decide) _) (kx _ 2 b (sv_mis (by decide) (by decide) hin.1 hin.2 (by decide)) (by decide) (Or.inr (Or.inl ⟨rfl, rfl⟩))))
      · have hout : i < 0 ∨ (ln : Int) ≤ i := by omega
        exact zn_setOut (v := sbV 5 b) (t0 := 3) C hκ hκl hT hZ (fun m9 h1 h2 => by simp [seenByNative, h1, h2, narrow, sbV]) hM rfl rfl ri hout zy_setLong zc_setLong d hf hlo hsz (by omega) (by omega) (fun b => zx_widen (Nat.add_le_add_left (by decide) _) (Nat.add_le_add_left (by decide) _) (kx _ 3 b (sv_out (by decide) (by decide) hout) (by decide) (Or.inr (Or.inr (Or.inl ⟨rfl, rfl⟩)))))
    · by_cases hin : 0 ≤ i ∧ i < (ln : Int)
      · exact zn_setMis (v := sbV 5 b) (t0 := 4) C hκ hκl hT hZ (fun m9 h1 h2 => by simp [seenByNative, h1, h2, narrow, sbV]) hM rfl rfl hin.1 hin.2 (show ln ≤ 2147483647 by omega) rfl zy_setLong zc_setLong d hf hlo hsz (by omega) (by omega) (fun b => zx_widen (Nat.add_le_add_left (by decide) _) (Nat.add_le_add_left (by decide) _) (kx _ 2 b (sv_mis (by decide) (by decide) hin.1 hin.2 (by decide)) (by decide) (Or.inr (Or.inl ⟨rfl, rfl⟩))))
      · have hout : i < 0 ∨ (ln : Int) ≤ i := by omega
        exact zn_setOut (v := sbV 5 b) (t0 := 4) C hκ hκl hT hZ (fun m9 h1 h2 => by simp [seenByNative, h1, h2, narrow, sbV]) hM rfl rfl ri hout zy_setLong zc_setLong d hf hlo hsz (by omega) (by omega) (fun b => zx_widen (Nat.add_le_add_left (by decide) _) (Nat.add_le_add_left (by decide) _) (kx _ 3 b (sv_out (by decide) (by decide) hout) (by decide) (Or.inr (Or.inr (Or.inl ⟨rfl, rfl⟩)))))
  · subst r1
    by_cases hin : 0 ≤ i ∧ i < (ln : Int)
    · have hnar : narrow .long (.long (lI b)) = .long (lI b) := rfl
      have hval : (lI b) = lI (wdL b 5 5) := (by rw [show wdL b 5 5 = b from if_pos (by decide)])
      refine zn_setOk (v := sbV 5 b) (v' := .long (lI b)) (t0 := 5) C hκ hκl q (fun m9 h1 h2 => by simp [seenByNative, h1, h2, narrow, sbV]) hM rfl rfl hin.1 hin.2 (show ln ≤ 2147483647 by omega) rfl rfl (by rw [hnar]; exact rfl) (by rw [hnar]; exact trivial) zy_setLong zc_setLong d (by omega) (by omega) hsz hq ?_
      rw [hnar]
      exact kk _ (sv_ok (by decide) (by decide) hin.1 hin.2 (by decide)) (Or.inr (Or.inl ⟨rfl, _, rfl, svu_at hin.1 r3 hval⟩))
    · have hout : i < 0 ∨ (ln : Int) ≤ i := by omega
      exact zn_setOut (v := sbV 5 b) (t0 := 5) C hκ hκl hT hZ (fun m9 h1 h2 => by simp [seenByNative, h1, h2, narrow, sbV]) hM rfl rfl ri hout zy_setLong zc_setLong d hf hlo hsz (by omega) (by omega) (fun b => zx_widen (Nat.add_le_add_left (by decide) _) (Nat.add_le_add_left (by decide) _) (kx _ 3 b (sv_out (by decide) (by decide) hout) (by decide) (Or.inr (Or.inr (Or.inl ⟨rfl, rfl⟩)))))
  · subst r1
    by_cases hin : 0 ≤ i ∧ i < (ln : Int)
    · have hnar : narrow .float (.float (FP.l2f (lI b))) = .float (FP.l2f (lI b)) := rfl
      have hval : (FP.l2f (lI b)) = U32 (wdL b 5 6) := (wdl_6 (by decide)).symm
      refine zn_setOk (v := sbV 5 b) (v' := .float (FP.l2f (lI b))) (t0 := 6) C hκ hκl q (fun m9 h1 h2 => by simp [seenByNative, h1, h2, narrow, sbV]) hM rfl rfl hin.1 hin.2 (show ln ≤ 2147483647 by omega) rfl rfl (by rw [hnar]; exact rfl) (by rw [hnar]; exact trivial) zy_setLong zc_setLong d (by omega) (by omega) hsz hq ?_
      rw [hnar]
      exact kk _ (sv_ok (by decide) (by decide) hin.1 hin.2 (by decide)) (Or.inr (Or.inr (Or.inl ⟨rfl, _, rfl, svu_at hin.1 r3 hval⟩)))
    · have hout : i < 0 ∨ (ln : Int) ≤ i := by omega
      exact zn_setOut (v := sbV 5 b) (t0 := 6) C hκ hκl hT hZ (fun m9 h1 h2 => by simp [seenByNative, h1, h2, narrow, sbV]) hM rfl rfl ri hout zy_setLong zc_setLong d hf hlo hsz (by omega) (by omega) (fun b => zx_widen (Nat.add_le_add_left (by decide) _) (Nat.add_le_add_left (by decide) _) (kx _ 3 b (sv_out (by decide) (by decide) hout) (by decide) (Or.inr (Or.inr (Or.inl ⟨rfl, rfl⟩)))))
  · subst r1
    by_cases hin : 0 ≤ i ∧ i < (ln : Int)
    · have hnar : narrow .double (.double (FP.l2d (lI b))) = .double (FP.l2d (lI b)) := rfl
      have hval : (FP.l2d (lI b)) = U64 (wdL b 5 7) := (wdl_7 (by decide)).symm
      refine zn_setOk (v := sbV 5 b) (v' := .double (FP.l2d (lI b))) (t0 := 7) C hκ hκl q (fun m9 h1 h2 => by simp [seenByNative, h1, h2, narrow, sbV]) hM rfl rfl hin.1 hin.2 (show ln ≤ 2147483647 by omega) rfl (awd1 rfl) (by rw [hnar]; exact rfl) (by rw [hnar]; exact trivial) zy_setLong zc_setLong d (by omega) (by omega) hsz hq ?_
      rw [hnar]
      exact kk _ (sv_ok (by decide) (by decide) hin.1 hin.2 (by decide)) (Or.inr (Or.inr (Or.inr (Or.inl ⟨rfl, _, rfl, svu_at hin.1 r3 hval⟩))))
    · have hout : i < 0 ∨ (ln : Int) ≤ i := by omega
      exact zn_setOut (v := sbV 5 b) (t0 := 7) C hκ hκl hT hZ (fun m9 h1 h2 => by simp [seenByNative, h1, h2, narrow, sbV]) hM rfl rfl ri hout zy_setLong zc_setLong d hf hlo hsz (by omega) (by omega) (fun b => zx_widen (Nat.add_le_add_left (by decide) _) (Nat.add_le_add_left (by decide) _) (kx _ 3 b (sv_out (by decide) (by decide) hout) (by decide) (Or.inr (Or.inr (Or.inl ⟨rfl, rfl⟩)))))
  · have hx9 : xcA θ w t = θ.2.1 10 ∨ xcA θ w t = θ.2.1 13 ∨ xcA θ w t = θ.2.1 12 := by unfold xcA; split; exact Or.inl rfl; split; exact Or.inr (Or.inl rfl); exact Or.inr (Or.inr rfl)
    rcases hx9 with hx9 | hx9 | hx9 <;> rw [hx9] at hM
    · exact zn_setRef (v := sbV 5 b) (t0 := 10) C hκ hκl hT hZ (fun m9 h1 h2 => by simp [seenByNative, h1, h2, narrow, sbV]) hM rfl rfl zy_setLong zc_setLong d hf hlo hsz (by omega) (by omega) (fun b => zx_widen (Nat.add_le_add_left (by decide) _) (Nat.add_le_add_left (by decide) _) (kx _ 2 b (sv_ref (by decide) r1) (by decide) (Or.inr (Or.inl ⟨rfl, rfl⟩))))
    · exact zn_setRef (v := sbV 5 b) (t0 := 13) C hκ hκl hT hZ (fun m9 h1 h2 => by simp [seenByNative, h1, h2, narrow, sbV]) hM rfl rfl zy_setLong zc_setLong d hf hlo hsz (by omega) (by omega) (fun b => zx_widen (Nat.add_le_add_left (by decide) _) (Nat.add_le_add_left (by decide) _) (kx _ 2 b (sv_ref (by decide) r1) (by decide) (Or.inr (Or.inl ⟨rfl, rfl⟩))))
    · exact zn_setRef (v := sbV 5 b) (t0 := 12) C hκ hκl hT hZ (fun m9 h1 h2 => by simp [seenByNative, h1, h2, narrow, sbV]) hM rfl rfl zy_setLong zc_setLong d hf hlo hsz (by omega) (by omega) (fun b => zx_widen (Nat.add_le_add_left (by decide) _) (Nat.add_le_add_left (by decide) _) (kx _ 2 b (sv_ref (by decide) r1) (by decide) (Or.inr (Or.inl ⟨rfl, rfl⟩))))
theorem x_sv6 (C : ZC κ "ReflectMirror" nm cc nL ret rm P) (hκ : κ.1 = θ) (hκl : κ.2.2.1 = l) (hT : zTb θ) (hZ : zTx θ l) (q : Nat) (hM : M a = some e) (hr : xRow θ σ w t ln v e) (hb : xVok 6 b) (hln : ln ≤ 1000) (ri : inR i) (d : decode cc pc = .ok (.invokestatic 168, 3)) (hf : 9 ≤ rm.frames) (hlo : 10250 ≤ rm.locals) (hsz : (rest.map fun v => v.category).sum ≤ 8) (hce : n + 3 ≤ rm.cells) (hsl : k + 210 ≤ rm.slots) (hq : pc + 3 = q) (kk : ∀ e' : va_E, svE t ln i 6 = 0 → xRow θ σ w t ln (svU v i (wdL b 6 t)) e' → Z κ (zP θ (zup M a e') N) n k q lv rest) (kx : ∀ (E : String) (c : Int) (b : Nat), svE t ln i 6 = c → c ≠ 0 → xEz E c → zX κ (zP θ M N) (n + 3) (k + 210) pc lv b E) : Z κ (zP θ M N) n k pc lv (sbV 6 b :: .int (iI i) :: .ref a :: rest) := by
  rcases hr with ⟨r1, r2, f, rfl, r3⟩ | ⟨r1, f, rfl, r3⟩ | ⟨r1, f, rfl, r3⟩ | ⟨r1, f, rfl, r3⟩ | ⟨r1, f, rfl, r3⟩
  · rcases (show t = 0 ∨ t = 1 ∨ t = 2 ∨ t = 3 ∨ t = 4 by omega) with rfl | rfl | rfl | rfl | rfl
    · by_cases hin : 0 ≤ i ∧ i < (ln : Int)
      · exact zn_setMis (v := sbV 6 b) (t0 := 0) C hκ hκl hT hZ (fun m9 h1 h2 => by simp [seenByNative, h1, h2, narrow, sbV]) hM rfl rfl hin.1 hin.2 (show ln ≤ 2147483647 by omega) rfl zy_setFloat zc_setFloat d hf hlo hsz (by omega) (by omega) (fun b => zx_widen (Nat.add_le_add_left (by decide) _) (Nat.add_le_add_left (by decide) _) (kx _ 2 b (sv_mis (by decide) (by decide) hin.1 hin.2 (by decide)) (by decide) (Or.inr (Or.inl ⟨rfl, rfl⟩))))
      · have hout : i < 0 ∨ (ln : Int) ≤ i := by omega
        exact zn_setOut (v := sbV 6 b) (t0 := 0) C hκ hκl hT hZ (fun m9 h1 h2 => by simp [seenByNative, h1, h2, narrow, sbV]) hM rfl rfl ri hout zy_setFloat zc_setFloat d hf hlo hsz (by omega) (by omega) (fun b => zx_widen (Nat.add_le_add_left (by decide) _) (Nat.add_le_add_left (by decide) _) (kx _ 3 b (sv_out (by decide) (by decide) hout) (by decide) (Or.inr (Or.inr (Or.inl ⟨rfl, rfl⟩)))))
    · by_cases hin : 0 ≤ i ∧ i < (ln : Int)
      · exact zn_setMis (v := sbV 6 b) (t0 := 1) C hκ hκl hT hZ (fun m9 h1 h2 => by simp [seenByNative, h1, h2, narrow, sbV]) hM rfl rfl hin.1 hin.2 (show ln ≤ 2147483647 by omega) rfl zy_setFloat zc_setFloat d hf hlo hsz (by omega) (by omega) (fun b => zx_widen (Nat.add_le_add_left (by decide) _) (Nat.add_le_add_left (by decide) _) (kx _ 2 b (sv_mis (by decide) (by decide) hin.1 hin.2 (by decide)) (by decide) (Or.inr (Or.inl ⟨rfl, rfl⟩))))
      · have hout : i < 0 ∨ (ln : Int) ≤ i := by omega
        exact zn_setOut (v := sbV 6 b) (t0 := 1) C hκ hκl hT hZ (fun m9 h1 h2 => by simp [seenByNative, h1, h2, narrow, sbV]) hM rfl rfl ri hout zy_setFloat zc_setFloat d hf hlo hsz (by omega) (by omega) (fun b => zx_widen (Nat.add_le_add_left (by decide) _) (Nat.add_le_add_left (by decide) _) (kx _ 3 b (sv_out (by decide) (by decide) hout) (by decide) (Or.inr (Or.inr (Or.inl ⟨rfl, rfl⟩)))))
    · by_cases hin : 0 ≤ i ∧ i < (ln : Int)
      · exact zn_setMis (v := sbV 6 b) (t0 := 2) C hκ hκl hT hZ (fun m9 h1 h2 => by simp [seenByNative, h1, h2, narrow, sbV]) hM rfl rfl hin.1 hin.2 (show ln ≤ 2147483647 by omega) rfl zy_setFloat zc_setFloat d hf hlo hsz (by omega) (by omega) (fun b => zx_widen (Nat.add_le_add_left (by decide) _) (Nat.add_le_add_left (by decide) _) (kx _ 2 b (sv_mis (by decide) (by decide) hin.1 hin.2 (by decide)) (by decide) (Or.inr (Or.inl ⟨rfl, rfl⟩))))
      · have hout : i < 0 ∨ (ln : Int) ≤ i := by omega
        exact zn_setOut (v := sbV 6 b) (t0 := 2) C hκ hκl hT hZ (fun m9 h1 h2 => by simp [seenByNative, h1, h2, narrow, sbV]) hM rfl rfl ri hout zy_setFloat zc_setFloat d hf hlo hsz (by omega) (by omega) (fun b => zx_widen (Nat.add_le_add_left (by decide) _) (Nat.add_le_add_left (by decide) _) (kx _ 3 b (sv_out (by decide) (by decide) hout) (by decide) (Or.inr (Or.inr (Or.inl ⟨rfl, rfl⟩)))))
    · by_cases hin : 0 ≤ i ∧ i < (ln : Int)
      · exact zn_setMis (v := sbV 6 b) (t0 := 3) C hκ hκl hT hZ (fun m9 h1 h2 => by simp [seenByNative, h1, h2, narrow, sbV]) hM rfl rfl hin.1 hin.2 (show ln ≤ 2147483647 by omega) rfl zy_setFloat zc_setFloat d hf hlo hsz (by omega) (by omega) (fun b => zx_widen (Nat.add_le_add_left (by decide) _) (Nat.add_le_add_left (by decide) _) (kx _ 2 b (sv_mis (by decide) (by decide) hin.1 hin.2 (by decide)) (by decide) (Or.inr (Or.inl ⟨rfl, rfl⟩))))
      · have hout : i < 0 ∨ (ln : Int) ≤ i := by omega
        exact zn_setOut (v := sbV 6 b) (t0 := 3) C hκ hκl hT hZ (fun m9 h1 h2 => by simp [seenByNative, h1, h2, narrow, sbV]) hM rfl rfl ri hout zy_setFloat zc_setFloat d hf hlo hsz (by omega) (by omega) (fun b => zx_widen (Nat.add_le_add_left (by decide) _) (Nat.add_le_add_left (by decide) _) (kx _ 3 b (sv_out (by decide) (by decide) hout) (by decide) (Or.inr (Or.inr (Or.inl ⟨rfl, rfl⟩)))))
    · by_cases hin : 0 ≤ i ∧ i < (ln : Int)
      · exact zn_setMis (v := sbV 6 b) (t0 := 4) C hκ hκl hT hZ (fun m9 h1 h2 => by simp [seenByNative, h1, h2, narrow, sbV]) hM rfl rfl hin.1 hin.2 (show ln ≤ 2147483647 by omega) rfl zy_setFloat zc_setFloat d hf hlo hsz (by omega) (by omega) (fun b => zx_widen (Nat.add_le_add_left (by decide) _) (Nat.add_le_add_left (by decide) _) (kx _ 2 b (sv_mis (by decide) (by decide) hin.1 hin.2 (by decide)) (by decide) (Or.inr (Or.inl ⟨rfl, rfl⟩))))
      · have hout : i < 0 ∨ (ln : Int) ≤ i := by omega
        exact zn_setOut (v := sbV 6 b) (t0 := 4) C hκ hκl hT hZ (fun m9 h1 h2 => by simp [seenByNative, h1, h2, narrow, sbV]) hM rfl rfl ri hout zy_setFloat zc_setFloat d hf hlo hsz (by omega) (by omega) (fun b => zx_widen (Nat.add_le_add_left (by decide) _) (Nat.add_le_add_left (by decide) _) (kx _ 3 b (sv_out (by decide) (by decide) hout) (by decide) (Or.inr (Or.inr (Or.inl ⟨rfl, rfl⟩)))))
  · subst r1
    by_cases hin : 0 ≤ i ∧ i < (ln : Int)
    · exact zn_setMis (v := sbV 6 b) (t0 := 5) C hκ hκl hT hZ (fun m9 h1 h2 => by simp [seenByNative, h1, h2, narrow, sbV]) hM rfl rfl hin.1 hin.2 (show ln ≤ 2147483647 by omega) rfl zy_setFloat zc_setFloat d hf hlo hsz (by omega) (by omega) (fun b => zx_widen (Nat.add_le_add_left (by decide) _) (Nat.add_le_add_left (by decide) _) (kx _ 2 b (sv_mis (by decide) (by decide) hin.1 hin.2 (by decide)) (by decide) (Or.inr (Or.inl ⟨rfl, rfl⟩))))
    · have hout : i < 0 ∨ (ln : Int) ≤ i := by omega
      exact zn_setOut (v := sbV 6 b) (t0 := 5) C hκ hκl hT hZ (fun m9 h1 h2 => by simp [seenByNative, h1, h2, narrow, sbV]) hM rfl rfl ri hout zy_setFloat zc_setFloat d hf hlo hsz (by omega) (by omega) (fun b => zx_widen (Nat.add_le_add_left (by decide) _) (Nat.add_le_add_left (by decide) _) (kx _ 3 b (sv_out (by decide) (by decide) hout) (by decide) (Or.inr (Or.inr (Or.inl ⟨rfl, rfl⟩)))))
  · subst r1
    by_cases hin : 0 ≤ i ∧ i < (ln : Int)
    · have hnar : narrow .float (.float (U32 b)) = .float (U32 b) := rfl
      have hval : (U32 b) = U32 (wdL b 6 6) := (by rw [wdl_same])
      refine zn_setOk (v := sbV 6 b) (v' := .float (U32 b)) (t0 := 6) C hκ hκl q (fun m9 h1 h2 => by simp [seenByNative, h1, h2, narrow, sbV]) hM rfl rfl hin.1 hin.2 (show ln ≤ 2147483647 by omega) rfl rfl (by rw [hnar]; exact rfl) (by rw [hnar]; exact trivial) zy_setFloat zc_setFloat d (by omega) (by omega) hsz hq ?_
      rw [hnar]
      exact kk _ (sv_ok (by decide) (by decide) hin.1 hin.2 (by decide)) (Or.inr (Or.inr (Or.inl ⟨rfl, _, rfl, svu_at hin.1 r3 hval⟩)))
    · have hout : i < 0 ∨ (ln : Int) ≤ i := by omega
      exact zn_setOut (v := sbV 6 b) (t0 := 6) C hκ hκl hT hZ (fun m9 h1 h2 => by simp [seenByNative, h1, h2, narrow, sbV]) hM rfl rfl ri hout zy_setFloat zc_setFloat d hf hlo hsz (by omega) (by omega) (fun b => zx_widen (Nat.add_le_add_left (by decide) _) (Nat.add_le_add_left (by decide) _) (kx _ 3 b (sv_out (by decide) (by decide) hout) (by decide) (Or.inr (Or.inr (Or.inl ⟨rfl, rfl⟩)))))
  · subst r1
    by_cases hin : 0 ≤ i ∧ i < (ln : Int)
    · have hnar : narrow .double (.double (FP.f2d (U32 b))) = .double (FP.f2d (U32 b)) := rfl
      have hval : (FP.f2d (U32 b)) = U64 (wdL b 6 7) := wdl_67.symm
      refine zn_setOk (v := sbV 6 b) (v' := .double (FP.f2d (U32 b))) (t0 := 7) C hκ hκl q (fun m9 h1 h2 => by simp [seenByNative, h1, h2, narrow, sbV]) hM rfl rfl hin.1 hin.2 (show ln ≤ 2147483647 by omega) rfl (awd2 (f2d_vf (U32_vg (hb.2.2.2.2 rfl).2))) (by rw [hnar]; exact rfl) (by rw [hnar]; exact trivial) zy_setFloat zc_setFloat d (by omega) (by omega) hsz hq ?_
      rw [hnar]
      exact kk _ (sv_ok (by decide) (by decide) hin.1 hin.2 (by decide)) (Or.inr (Or.inr (Or.inr (Or.inl ⟨rfl, _, rfl, svu_at hin.1 r3 hval⟩))))
    · have hout : i < 0 ∨ (ln : Int) ≤ i := by omega
      exact zn_setOut (v := sbV 6 b) (t0 := 7) C hκ hκl hT hZ (fun m9 h1 h2 => by simp [seenByNative, h1, h2, narrow, sbV]) hM rfl rfl ri hout zy_setFloat zc_setFloat d hf hlo hsz (by omega) (by omega) (fun b => zx_widen (Nat.add_le_add_left (by decide) _) (Nat.add_le_add_left (by decide) _) (kx _ 3 b (sv_out (by decide) (by decide) hout) (by decide) (Or.inr (Or.inr (Or.inl ⟨rfl, rfl⟩)))))
  · have hx9 : xcA θ w t = θ.2.1 10 ∨ xcA θ w t = θ.2.1 13 ∨ xcA θ w t = θ.2.1 12 := by unfold xcA; split; exact Or.inl rfl; split; exact Or.inr (Or.inl rfl); exact Or.inr (Or.inr rfl)
    rcases hx9 with hx9 | hx9 | hx9 <;> rw [hx9] at hM
    · exact zn_setRef (v := sbV 6 b) (t0 := 10) C hκ hκl hT hZ (fun m9 h1 h2 => by simp [seenByNative, h1, h2, narrow, sbV]) hM rfl rfl zy_setFloat zc_setFloat d hf hlo hsz (by omega) (by omega) (fun b => zx_widen (Nat.add_le_add_left (by decide) _) (Nat.add_le_add_left (by decide) _) (kx _ 2 b (sv_ref (by decide) r1) (by decide) (Or.inr (Or.inl ⟨rfl, rfl⟩))))
    · exact zn_setRef (v := sbV 6 b) (t0 := 13) C hκ hκl hT hZ (fun m9 h1 h2 => by simp [seenByNative, h1, h2, narrow, sbV]) hM rfl rfl zy_setFloat zc_setFloat d hf hlo hsz (by omega) (by omega) (fun b => zx_widen (Nat.add_le_add_left (by decide) _) (Nat.add_le_add_left (by decide) _) (kx _ 2 b (sv_ref (by decide) r1) (by decide) (Or.inr (Or.inl ⟨rfl, rfl⟩))))
    · exact zn_setRef (v := sbV 6 b) (t0 := 12) C hκ hκl hT hZ (fun m9 h1 h2 => by simp [seenByNative, h1, h2, narrow, sbV]) hM rfl rfl zy_setFloat zc_setFloat d hf hlo hsz (by omega) (by omega) (fun b => zx_widen (Nat.add_le_add_left (by decide) _) (Nat.add_le_add_left (by decide) _) (kx _ 2 b (sv_ref (by decide) r1) (by decide) (Or.inr (Or.inl ⟨rfl, rfl⟩))))
theorem x_sv7 (C : ZC κ "ReflectMirror" nm cc nL ret rm P) (hκ : κ.1 = θ) (hκl : κ.2.2.1 = l) (hT : zTb θ) (hZ : zTx θ l) (q : Nat) (hM : M a = some e) (hr : xRow θ σ w t ln v e) (hb : xVok 7 b) (hln : ln ≤ 1000) (ri : inR i) (d : decode cc pc = .ok (.invokestatic 176, 3)) (hf : 9 ≤ rm.frames) (hlo : 10250 ≤ rm.locals) (hsz : (rest.map fun v => v.category).sum ≤ 8) (hce : n + 3 ≤ rm.cells) (hsl : k + 210 ≤ rm.slots) (hq : pc + 3 = q) (kk : ∀ e' : va_E, svE t ln i 7 = 0 → xRow θ σ w t ln (svU v i (wdL b 7 t)) e' → Z κ (zP θ (zup M a e') N) n k q lv rest) (kx : ∀ (E : String) (c : Int) (b : Nat), svE t ln i 7 = c → c ≠ 0 → xEz E c → zX κ (zP θ M N) (n + 3) (k + 210) pc lv b E) : Z κ (zP θ M N) n k pc lv (sbV 7 b :: .int (iI i) :: .ref a :: rest) := by
  rcases hr with ⟨r1, r2, f, rfl, r3⟩ | ⟨r1, f, rfl, r3⟩ | ⟨r1, f, rfl, r3⟩ | ⟨r1, f, rfl, r3⟩ | ⟨r1, f, rfl, r3⟩
  · rcases (show t = 0 ∨ t = 1 ∨ t = 2 ∨ t = 3 ∨ t = 4 by omega) with rfl | rfl | rfl | rfl | rfl
    · by_cases hin : 0 ≤ i ∧ i < (ln : Int)
      · exact zn_setMis (v := sbV 7 b) (t0 := 0) C hκ hκl hT hZ (fun m9 h1 h2 => by simp [seenByNative, h1, h2, narrow, sbV]) hM rfl rfl hin.1 hin.2 (show ln ≤ 2147483647 by omega) rfl zy_setDouble zc_setDouble d hf hlo hsz (by omega) (by omega) (fun b => zx_widen (Nat.add_le_add_left (by decide) _) (Nat.add_le_add_left (by decide) _) (kx _ 2 b (sv_mis (by decide) (by decide) hin.1 hin.2 (by decide)) (by decide) (Or.inr (Or.inl ⟨rfl, rfl⟩))))
      · have hout : i < 0 ∨ (ln : Int) ≤ i := by omega
        exact zn_setOut (v := sbV 7 b) (t0 := 0) C hκ hκl hT hZ (fun m9 h1 h2 => by simp [seenByNative, h1, h2, narrow, sbV]) hM rfl rfl ri hout zy_setDouble zc_setDouble d hf hlo hsz (by omega) (by omega) (fun b => zx_widen (Nat.add_le_add_left (by decide) _) (Nat.add_le_add_left (by decide) _) (kx _ 3 b (sv_out (by decide) (by decide) hout) (by decide) (Or.inr (Or.inr (Or.inl ⟨rfl, rfl⟩)))))
    · by_cases hin : 0 ≤ i ∧ i < (ln : Int)
      · exact zn_setMis (v := sbV 7 b) (t0 := 1) C hκ hκl hT hZ (fun m9 h1 h2 => by simp [seenByNative, h1, h2, narrow, sbV]) hM rfl rfl hin.1 hin.2 (show ln ≤ 2147483647 by omega) rfl zy_setDouble zc_setDouble d hf hlo hsz (by omega) (by omega) (fun b => zx_widen (Nat.add_le_add_left (by decide) _) (Nat.add_le_add_left (by decide) _) (kx _ 2 b (sv_mis (by decide) (by decide) hin.1 hin.2 (by decide)) (by decide) (Or.inr (Or.inl ⟨rfl, rfl⟩))))
      · have hout : i < 0 ∨ (ln : Int) ≤ i := by omega
        exact zn_setOut (v := sbV 7 b) (t0 := 1) C hκ hκl hT hZ (fun m9 h1 h2 => by simp [seenByNative, h1, h2, narrow, sbV]) hM rfl rfl ri hout zy_setDouble zc_setDouble d hf hlo hsz (by omega) (by omega) (fun b => zx_widen (Nat.add_le_add_left (by decide) _) (Nat.add_le_add_left (by decide) _) (kx _ 3 b (sv_out (by decide) (by decide) hout) (by decide) (Or.inr (Or.inr (Or.inl ⟨rfl, rfl⟩)))))
    · by_cases hin : 0 ≤ i ∧ i < (ln : Int)
      · exact zn_setMis (v := sbV 7 b) (t0 := 2) C hκ hκl hT hZ (fun m9 h1 h2 => by simp [seenByNative, h1, h2, narrow, sbV]) hM rfl rfl hin.1 hin.2 (show ln ≤ 2147483647 by omega) rfl zy_setDouble zc_setDouble d hf hlo hsz (by omega) (by omega) (fun b => zx_widen (Nat.add_le_add_left (by decide) _) (Nat.add_le_add_left (by decide) _) (kx _ 2 b (sv_mis (by decide) (by decide) hin.1 hin.2 (by decide)) (by decide) (Or.inr (Or.inl ⟨rfl, rfl⟩))))
      · have hout : i < 0 ∨ (ln : Int) ≤ i := by omega
        exact zn_setOut (v := sbV 7 b) (t0 := 2) C hκ hκl hT hZ (fun m9 h1 h2 => by simp [seenByNative, h1, h2, narrow, sbV]) hM rfl rfl ri hout zy_setDouble zc_setDouble d hf hlo hsz (by omega) (by omega) (fun b => zx_widen (Nat.add_le_add_left (by decide) _) (Nat.add_le_add_left (by decide) _) (kx _ 3 b (sv_out (by decide) (by decide) hout) (by decide) (Or.inr (Or.inr (Or.inl ⟨rfl, rfl⟩)))))
    · by_cases hin : 0 ≤ i ∧ i < (ln : Int)
      · exact zn_setMis (v := sbV 7 b) (t0 := 3) C hκ hκl hT hZ (fun m9 h1 h2 => by simp [seenByNative, h1, h2, narrow, sbV]) hM rfl rfl hin.1 hin.2 (show ln ≤ 2147483647 by omega) rfl zy_setDouble zc_setDouble d hf hlo hsz (by omega) (by omega) (fun b => zx_widen (Nat.add_le_add_left (by decide) _) (Nat.add_le_add_left (by decide) _) (kx _ 2 b (sv_mis (by decide) (by decide) hin.1 hin.2 (by decide)) (by decide) (Or.inr (Or.inl ⟨rfl, rfl⟩))))
      · have hout : i < 0 ∨ (ln : Int) ≤ i := by omega
        exact zn_setOut (v := sbV 7 b) (t0 := 3) C hκ hκl hT hZ (fun m9 h1 h2 => by simp [seenByNative, h1, h2, narrow, sbV]) hM rfl rfl ri hout zy_setDouble zc_setDouble d hf hlo hsz (by omega) (by omega) (fun b => zx_widen (Nat.add_le_add_left (by decide) _) (Nat.add_le_add_left (by decide) _) (kx _ 3 b (sv_out (by decide) (by decide) hout) (by decide) (Or.inr (Or.inr (Or.inl ⟨rfl, rfl⟩)))))
    · by_cases hin : 0 ≤ i ∧ i < (ln : Int)
      · exact zn_setMis (v := sbV 7 b) (t0 := 4) C hκ hκl hT hZ (fun m9 h1 h2 => by simp [seenByNative, h1, h2, narrow, sbV]) hM rfl rfl hin.1 hin.2 (show ln ≤ 2147483647 by omega) rfl zy_setDouble zc_setDouble d hf hlo hsz (by omega) (by omega) (fun b => zx_widen (Nat.add_le_add_left (by decide) _) (Nat.add_le_add_left (by decide) _) (kx _ 2 b (sv_mis (by decide) (by decide) hin.1 hin.2 (by decide)) (by decide) (Or.inr (Or.inl ⟨rfl, rfl⟩))))
      · have hout : i < 0 ∨ (ln : Int) ≤ i := by omega
        exact zn_setOut (v := sbV 7 b) (t0 := 4) C hκ hκl hT hZ (fun m9 h1 h2 => by simp [seenByNative, h1, h2, narrow, sbV]) hM rfl rfl ri hout zy_setDouble zc_setDouble d hf hlo hsz (by omega) (by omega) (fun b => zx_widen (Nat.add_le_add_left (by decide) _) (Nat.add_le_add_left (by decide) _) (kx _ 3 b (sv_out (by decide) (by decide) hout) (by decide) (Or.inr (Or.inr (Or.inl ⟨rfl, rfl⟩)))))
  · subst r1
    by_cases hin : 0 ≤ i ∧ i < (ln : Int)
    · exact zn_setMis (v := sbV 7 b) (t0 := 5) C hκ hκl hT hZ (fun m9 h1 h2 => by simp [seenByNative, h1, h2, narrow, sbV]) hM rfl rfl hin.1 hin.2 (show ln ≤ 2147483647 by omega) rfl zy_setDouble zc_setDouble d hf hlo hsz (by omega) (by omega) (fun b => zx_widen (Nat.add_le_add_left (by decide) _) (Nat.add_le_add_left (by decide) _) (kx _ 2 b (sv_mis (by decide) (by decide) hin.1 hin.2 (by decide)) (by decide) (Or.inr (Or.inl ⟨rfl, rfl⟩))))
    · have hout : i < 0 ∨ (ln : Int) ≤ i := by omega
      exact zn_setOut (v := sbV 7 b) (t0 := 5) C hκ hκl hT hZ (fun m9 h1 h2 => by simp [seenByNative, h1, h2, narrow, sbV]) hM rfl rfl ri hout zy_setDouble zc_setDouble d hf hlo hsz (by omega) (by omega) (fun b => zx_widen (Nat.add_le_add_left (by decide) _) (Nat.add_le_add_left (by decide) _) (kx _ 3 b (sv_out (by decide) (by decide) hout) (by decide) (Or.inr (Or.inr (Or.inl ⟨rfl, rfl⟩)))))
  · subst r1
    by_cases hin : 0 ≤ i ∧ i < (ln : Int)
    · exact zn_setMis (v := sbV 7 b) (t0 := 6) C hκ hκl hT hZ (fun m9 h1 h2 => by simp [seenByNative, h1, h2, narrow, sbV]) hM rfl rfl hin.1 hin.2 (show ln ≤ 2147483647 by omega) rfl zy_setDouble zc_setDouble d hf hlo hsz (by omega) (by omega) (fun b => zx_widen (Nat.add_le_add_left (by decide) _) (Nat.add_le_add_left (by decide) _) (kx _ 2 b (sv_mis (by decide) (by decide) hin.1 hin.2 (by decide)) (by decide) (Or.inr (Or.inl ⟨rfl, rfl⟩))))
    · have hout : i < 0 ∨ (ln : Int) ≤ i := by omega
      exact zn_setOut (v := sbV 7 b) (t0 := 6) C hκ hκl hT hZ (fun m9 h1 h2 => by simp [seenByNative, h1, h2, narrow, sbV]) hM rfl rfl ri hout zy_setDouble zc_setDouble d hf hlo hsz (by omega) (by omega) (fun b => zx_widen (Nat.add_le_add_left (by decide) _) (Nat.add_le_add_left (by decide) _) (kx _ 3 b (sv_out (by decide) (by decide) hout) (by decide) (Or.inr (Or.inr (Or.inl ⟨rfl, rfl⟩)))))
  · subst r1
    by_cases hin : 0 ≤ i ∧ i < (ln : Int)
    · have hnar : narrow .double (.double (U64 b)) = .double (U64 b) := rfl
      have hval : (U64 b) = U64 (wdL b 7 7) := (by rw [wdl_same])
      refine zn_setOk (v := sbV 7 b) (v' := .double (U64 b)) (t0 := 7) C hκ hκl q (fun m9 h1 h2 => by simp [seenByNative, h1, h2, narrow, sbV]) hM rfl rfl hin.1 hin.2 (show ln ≤ 2147483647 by omega) rfl (awd1 rfl) (by rw [hnar]; exact rfl) (by rw [hnar]; exact trivial) zy_setDouble zc_setDouble d (by omega) (by omega) hsz hq ?_
      rw [hnar]
      exact kk _ (sv_ok (by decide) (by decide) hin.1 hin.2 (by decide)) (Or.inr (Or.inr (Or.inr (Or.inl ⟨rfl, _, rfl, svu_at hin.1 r3 hval⟩))))
    · have hout : i < 0 ∨ (ln : Int) ≤ i := by omega
      exact zn_setOut (v := sbV 7 b) (t0 := 7) C hκ hκl hT hZ (fun m9 h1 h2 => by simp [seenByNative, h1, h2, narrow, sbV]) hM rfl rfl ri hout zy_setDouble zc_setDouble d hf hlo hsz (by omega) (by omega) (fun b => zx_widen (Nat.add_le_add_left (by decide) _) (Nat.add_le_add_left (by decide) _) (kx _ 3 b (sv_out (by decide) (by decide) hout) (by decide) (Or.inr (Or.inr (Or.inl ⟨rfl, rfl⟩)))))
  · have hx9 : xcA θ w t = θ.2.1 10 ∨ xcA θ w t = θ.2.1 13 ∨ xcA θ w t = θ.2.1 12 := by unfold xcA; split; exact Or.inl rfl; split; exact Or.inr (Or.inl rfl); exact Or.inr (Or.inr rfl)
    rcases hx9 with hx9 | hx9 | hx9 <;> rw [hx9] at hM
    · exact zn_setRef (v := sbV 7 b) (t0 := 10) C hκ hκl hT hZ (fun m9 h1 h2 => by simp [seenByNative, h1, h2, narrow, sbV]) hM rfl rfl zy_setDouble zc_setDouble d hf hlo hsz (by omega) (by omega) (fun b => zx_widen (Nat.add_le_add_left (by decide) _) (Nat.add_le_add_left (by decide) _) (kx _ 2 b (sv_ref (by decide) r1) (by decide) (Or.inr (Or.inl ⟨rfl, rfl⟩))))
    · exact zn_setRef (v := sbV 7 b) (t0 := 13) C hκ hκl hT hZ (fun m9 h1 h2 => by simp [seenByNative, h1, h2, narrow, sbV]) hM rfl rfl zy_setDouble zc_setDouble d hf hlo hsz (by omega) (by omega) (fun b => zx_widen (Nat.add_le_add_left (by decide) _) (Nat.add_le_add_left (by decide) _) (kx _ 2 b (sv_ref (by decide) r1) (by decide) (Or.inr (Or.inl ⟨rfl, rfl⟩))))
    · exact zn_setRef (v := sbV 7 b) (t0 := 12) C hκ hκl hT hZ (fun m9 h1 h2 => by simp [seenByNative, h1, h2, narrow, sbV]) hM rfl rfl zy_setDouble zc_setDouble d hf hlo hsz (by omega) (by omega) (fun b => zx_widen (Nat.add_le_add_left (by decide) _) (Nat.add_le_add_left (by decide) _) (kx _ 2 b (sv_ref (by decide) r1) (by decide) (Or.inr (Or.inl ⟨rfl, rfl⟩))))
end XSV
