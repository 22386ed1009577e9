/-! ===== load ===== -/
theorem ld_0 {t i as : Int} {ln : Nat} (h : ldE t ln i as = 0) (h8 : as ≠ 8) : t < 8 ∧ 0 ≤ i ∧ i < (ln : Int) ∧ wdB t as = true := by
  unfold ldE at h
  split at h
  · omega
  · split at h
    · omega
    · split at h
      · omega
      · rename_i hn
        refine ⟨by omega, by omega, by omega, ?_⟩
        cases hw : wdB t as with
        | true => rfl
        | false => exact absurd ⟨h8, hw⟩ hn
theorem ld_08 {t i : Int} {ln : Nat} (h : ldE t ln i 8 = 0) : 8 ≤ t ∧ 0 ≤ i ∧ i < (ln : Int) := by
  unfold ldE at h
  split at h
  · omega
  · split at h
    · omega
    · omega
theorem wd_t {t as : Int} (h : wdB t as = true) : t = as ∨ (t = 1 ∧ 4 ≤ as) ∨ (2 ≤ t ∧ t ≤ 6 ∧ t < as) := by unfold wdB at h; simpa using h
def ldB (t as b : Int) : Int := if as = 8 then 0 else wdL b t as
def ldT (σ : xA) (as b : Int) : Option Nat := if as = 8 then xo σ 30 b else none
theorem ldB_n {t as b : Int} (h : as < 6) : ldB t as b = b := by unfold ldB wdL; rw [if_neg (by omega), if_pos (by omega)]
theorem ldB_w {t as b : Int} (h : as < 8) : ldB t as b = wdL b t as := by unfold ldB; rw [if_neg (by omega)]
section XL8
variable {κ : zK} {own nm : String} {cc : ByteArray} {nL : Nat} {ret : Option FieldType} {rm : Room} {P : Option Value → (Heap → Prop) → Prop} {n k pc : Nat} {lv : List (Nat × Value)} {st rest : List Value}
variable {θ : zTh} {l : Launch} {σ : xA} {w : mW} {M N : zMap} {a ln : Nat} {t i : Int} {v : Nat → Int} {e : va_E}
theorem x_ld8 (C : ZC κ own nm cc nL ret rm P) (hκ : κ.1 = θ) (hκl : κ.2.2.1 = l) (hT : zTb θ) (hZ : zTx θ l) (q : Nat) (hM : M a = some e) (hr : xRow θ σ w t ln v e) (h8 : 8 ≤ t) (hln : ln ≤ 1000) (ri : inR i) (d : decode cc pc = .ok (.aaload, 1)) (hf : 9 ≤ rm.frames) (hlo : 10250 ≤ rm.locals) (hsz : (rest.map fun v => v.category).sum ≤ 8) (hce : n + 3 ≤ rm.cells) (hsl : k + 222 ≤ rm.slots) (hq : pc + 1 = q) (kk : ldE t ln i 8 = 0 → Z κ (zP θ M N) n k q lv (va_rf (xo σ 30 (v i.toNat)) :: rest)) (kx : ∀ (E : String) (c : Int) (b : Nat), ldE t ln i 8 = c → c ≠ 0 → xEz E c → zX κ (zP θ M N) (n + 3) (k + 222) pc lv b E) : Z κ (zP θ M N) n k pc lv (.int (iI i) :: .ref a :: rest) := by
  rcases hr with ⟨r1, r2, -⟩ | ⟨r1, -⟩ | ⟨r1, -⟩ | ⟨r1, -⟩ | ⟨r1, f, rfl, r3⟩
  · omega
  · omega
  · omega
  · omega
  · by_cases hin : 0 ≤ i ∧ i < (ln : Int)
    · have e0 : ldE t ln i 8 = 0 := by unfold ldE; rw [if_neg (by omega), if_neg (by omega), if_neg (by simp)]
      have e1 : va_rf (f i.toNat) = va_rf (xo σ 30 (v i.toNat)) := by rw [r3 i.toNat (by omega)]
      have hx9 : ∃ (t0 : Nat) (E : String), (zTys θ)[t0]? = some (xcA θ w t, .object E) := by
        unfold xcA
        split
        · exact ⟨10, _, rfl⟩
        · split
          · exact ⟨13, _, rfl⟩
          · exact ⟨12, _, rfl⟩
      obtain ⟨t0, E, ht⟩ := hx9
      exact z_qald C hκ q t0 hM ht hin.1 hin.2 (by omega) e1 d hq (kk e0)
    · have e3 : ldE t ln i 8 = 3 := by unfold ldE; rw [if_neg (by omega), if_pos (by omega)]
      have hx9 : ∃ (t0 : Nat) (E : String), (zTys θ)[t0]? = some (xcA θ w t, .object E) := by
        unfold xcA
        split
        · exact ⟨10, _, rfl⟩
        · split
          · exact ⟨13, _, rfl⟩
          · exact ⟨12, _, rfl⟩
      obtain ⟨t0, E, ht⟩ := hx9
      exact zx_aaldZ C hκ hκl hT hZ t0 hM ht ri (by omega) hln d hf hlo hsz hce hsl (fun b => kx _ 3 b e3 (by decide) (Or.inr (Or.inr (Or.inl ⟨rfl, rfl⟩))))
end XL8

set_option maxRecDepth 100000 in
theorem k0_load {l : Launch} {θ : zTh} {M N : zMap} (hT : zTb θ) (hZ : zTx θ l) (a : Nat) (t : Int) (ln : Nat) (v : Nat → Int) (e : va_E) (i : Int) (as : Int) (c : Nat) (k0 : Int) (b0 : Int) (t0 : Option Nat) (r_i : inR i) (r_as : inR as) {σ : xA} {w : mW} (hM : M a = some e) (hr : xRow θ σ w t ln v e) (hv : ∀ j : Nat, j < ln → xVok t (v j)) (hln : ln ≤ 1000) (has : 0 ≤ as ∧ as ≤ 8) (hC9 : M c = some (.inr (6, [.int (iI k0), .long (lI b0), va_rf t0]))) : zMX θ l yX0_load (ws_ yX0_load cX0_load 4 none) ⟨10, 4, 228, 10270⟩ [.ref (a), .int (iI (i)), .int (iI (as)), .ref (c)] (zP θ M N) (fun v9 Q9 => v9 = none ∧ ldE t ln i as = 0 ∧ Q9 = zP θ (zup M c (.inr (6, [.int (iI as), .long (lI (ldB t as (v i.toNat))), va_rf (ldT σ as (v i.toNat))]))) N) (fun E9 b9 Q9 => ∃ c9 : Int, ldE t ln i as = c9 ∧ c9 ≠ 0 ∧ xEz E9 c9 ∧ Q9 = zP θ M N) := by
  refine zx_start (own := RX0) (nm := "load") pnX0 rfl rfl (Nat.le_of_ble_eq_true rfl) ?_
  intro κ hκ hκl C XX
  change Z κ (zP θ M N) 0 0 0 [(0, .ref (a)), (1, .int (iI (i))), (2, .int (iI (as))), (3, .ref (c))] []
  refine z_iload_n C 1 2 dX0_load_0 rfl rfl ?_
  have c1r : inR (as) := r_as
  rcases (show as = 0 ∨ as = 1 ∨ as = 2 ∨ as = 3 ∨ as = 4 ∨ as = 5 ∨ as = 6 ∨ as = 7 ∨ (as < 0 ∨ 7 < as) by omega) with c1 | c1 | c1 | c1 | c1 | c1 | c1 | c1 | c1
  · skip
    refine z_tsIn C (as) 48 (off := 47) dX0_load_1 c1r (by omega) (by omega) (by rw [c1]; rfl) (by decide) ?_
    refine z_aload_n C 49 3 dX0_load_48 rfl rfl ?_
    refine z_aload_n C 50 0 dX0_load_49 rfl rfl ?_
    refine z_iload_n C 51 1 dX0_load_50 rfl rfl ?_
    refine x_ld0 (rest := [.ref (c)]) (e := e) C hκ hκl hT hZ 54 hM hr hv hln r_i dX0_load_51 (Nat.le_of_ble_eq_true rfl) (Nat.le_of_ble_eq_true rfl) (Nat.le_of_ble_eq_true rfl) (Nat.le_of_ble_eq_true rfl) (Nat.le_of_ble_eq_true rfl) rfl (fun h2 => ?_) (fun E9 c9 b9 hE9 hc9 hz9 => ?_)
    rotate_left 1
    · skip
      refine zx_out C hκ hT XX (fun z9 h9 => by cases h9) ⟨c9, (by rw [c1]; exact hE9), hc9, hz9, rfl⟩ (Nat.le_of_ble_eq_true rfl) (Nat.le_of_ble_eq_true rfl)
    obtain ⟨h2t, h20, h21, h2w⟩ := ld_0 h2 (by decide)
    have h2v := hv i.toNat (by omega)
    have h2u := wd_t h2w
    refine z_as (st' := [.int (iI (v i.toNat)), .ref (c)]) rfl rfl rfl ?_
    refine z_if_eq C 61 57 dX0_load_54 (by decide) (h2v.2.1 (by omega) (by omega)) rfl (fun c3 => ?_) (fun c3 => ?_)
    · skip
      refine z_lconst (x := 0) C 62 dX0_load_61 rfl rfl ?_
      rw [show (.long (lI (0)) : Value) = .long (lI (ldB t as (v i.toNat))) from congrArg (fun z9 => Value.long (lI z9)) ((by clear C hκ hκl ; have e0 := h2v.1 (by omega); rw [ldB_n (by omega)]; omega))]
      refine z_putf (fs' := [.int (iI (k0)), .long (lI (ldB t as (v i.toNat))), va_rf (t0)]) C hκ 65 1 zk_X6 hC9 (by decide) q250 (Or.inl rfl) rfl rfl rfl (Nat.le_of_ble_eq_true rfl) rfl dX0_load_62 rfl ?_
      obtain ⟨M1, eM1⟩ : ∃ z9 : zMap, zup M c (.inr (6, [.int (iI (k0)), .long (lI (ldB t as (v i.toNat))), va_rf (t0)]) : va_E) = z9 := ⟨_, rfl⟩
      rw [eM1]
      have o4 : M1 c = some (.inr (6, [.int (iI (k0)), .long (lI (ldB t as (v i.toNat))), va_rf (t0)])) := eM1 ▸ zup_s
      refine z_goto C 178 dX0_load_65 (by decide) ?_
      have hok9 : ldE t ln i as = 0 := by rw [c1]; exact h2
      refine z_aload_n C 179 3 dX0_load_178 rfl rfl ?_
      refine z_iload_n C 180 2 dX0_load_179 rfl rfl ?_
      refine z_putf (fs' := [.int (iI (as)), .long (lI (ldB t as (v i.toNat))), va_rf (t0)]) C hκ 183 0 zk_X6 o4 (by decide) q247 (Or.inl rfl) rfl rfl rfl (Nat.le_of_ble_eq_true rfl) rfl dX0_load_180 rfl ?_
      obtain ⟨M2, eM2⟩ : ∃ z9 : zMap, zup M1 c (.inr (6, [.int (iI (as)), .long (lI (ldB t as (v i.toNat))), va_rf (t0)]) : va_E) = z9 := ⟨_, rfl⟩
      rw [eM2]
      have o5 : M2 c = some (.inr (6, [.int (iI (as)), .long (lI (ldB t as (v i.toNat))), va_rf (t0)])) := eM2 ▸ zup_s
      refine z_iload_n C 184 2 dX0_load_183 rfl rfl ?_
      refine z_bipush C 186 dX0_load_184 (by decide) rfl ?_
      refine z_icmp_eq C 194 189 dX0_load_186 (by decide) r_as ⟨by decide, by decide⟩ rfl (fun c6 => ?_) (fun c6 => ?_)
      · skip
        exact z_vret C dX0_load_194 (Nat.le_of_ble_eq_true rfl) (Nat.le_of_ble_eq_true rfl) ⟨rfl, hok9, (congrArg (fun M9 => zP θ M9 N) (by first | (rw [← eM2, ← eM1]; simp only [zup_up]; done) | (exfalso; omega)))⟩
      · skip
        refine z_aload_n C 190 3 dX0_load_189 rfl rfl ?_
        refine z_null C 191 dX0_load_190 rfl ?_
        rw [show (.null : Value) = va_rf (ldT σ as (v i.toNat)) from (by clear C hκ hκl ; unfold ldT; rw [if_neg (by omega)]; rfl : Value.null = va_rf _)]
        refine z_putf (fs' := [.int (iI (as)), .long (lI (ldB t as (v i.toNat))), va_rf (ldT σ as (v i.toNat))]) C hκ 194 2 zk_X6 o5 (by decide) q254 (Or.inl rfl) rfl (by cases (ldT σ as (v i.toNat)) <;> rfl) (by cases (ldT σ as (v i.toNat)) <;> rfl) (Nat.le_of_ble_eq_true rfl) rfl dX0_load_191 rfl ?_
        obtain ⟨M3, eM3⟩ : ∃ z9 : zMap, zup M2 c (.inr (6, [.int (iI (as)), .long (lI (ldB t as (v i.toNat))), va_rf (ldT σ as (v i.toNat))]) : va_E) = z9 := ⟨_, rfl⟩
        rw [eM3]
        have o7 : M3 c = some (.inr (6, [.int (iI (as)), .long (lI (ldB t as (v i.toNat))), va_rf (ldT σ as (v i.toNat))])) := eM3 ▸ zup_s
        exact z_vret C dX0_load_194 (Nat.le_of_ble_eq_true rfl) (Nat.le_of_ble_eq_true rfl) ⟨rfl, hok9, (congrArg (fun M9 => zP θ M9 N) (by first | (rw [← eM3, ← eM2, ← eM1]; simp only [zup_up]; done) | (exfalso; omega)))⟩
    · skip
      refine z_lconst (x := 1) C 58 dX0_load_57 rfl rfl ?_
      refine z_goto C 62 dX0_load_58 (by decide) ?_
      rw [show (.long (lI (1)) : Value) = .long (lI (ldB t as (v i.toNat))) from congrArg (fun z9 => Value.long (lI z9)) ((by clear C hκ hκl ; have e0 := h2v.1 (by omega); rw [ldB_n (by omega)]; omega))]
      refine z_putf (fs' := [.int (iI (k0)), .long (lI (ldB t as (v i.toNat))), va_rf (t0)]) C hκ 65 1 zk_X6 hC9 (by decide) q250 (Or.inl rfl) rfl rfl rfl (Nat.le_of_ble_eq_true rfl) rfl dX0_load_62 rfl ?_
      obtain ⟨M4, eM4⟩ : ∃ z9 : zMap, zup M c (.inr (6, [.int (iI (k0)), .long (lI (ldB t as (v i.toNat))), va_rf (t0)]) : va_E) = z9 := ⟨_, rfl⟩
      rw [eM4]
      have o8 : M4 c = some (.inr (6, [.int (iI (k0)), .long (lI (ldB t as (v i.toNat))), va_rf (t0)])) := eM4 ▸ zup_s
      refine z_goto C 178 dX0_load_65 (by decide) ?_
      have hok9 : ldE t ln i as = 0 := by rw [c1]; exact h2
      refine z_aload_n C 179 3 dX0_load_178 rfl rfl ?_
      refine z_iload_n C 180 2 dX0_load_179 rfl rfl ?_
      refine z_putf (fs' := [.int (iI (as)), .long (lI (ldB t as (v i.toNat))), va_rf (t0)]) C hκ 183 0 zk_X6 o8 (by decide) q247 (Or.inl rfl) rfl rfl rfl (Nat.le_of_ble_eq_true rfl) rfl dX0_load_180 rfl ?_
      obtain ⟨M5, eM5⟩ : ∃ z9 : zMap, zup M4 c (.inr (6, [.int (iI (as)), .long (lI (ldB t as (v i.toNat))), va_rf (t0)]) : va_E) = z9 := ⟨_, rfl⟩
      rw [eM5]
      have o9 : M5 c = some (.inr (6, [.int (iI (as)), .long (lI (ldB t as (v i.toNat))), va_rf (t0)])) := eM5 ▸ zup_s
      refine z_iload_n C 184 2 dX0_load_183 rfl rfl ?_
      refine z_bipush C 186 dX0_load_184 (by decide) rfl ?_
      refine z_icmp_eq C 194 189 dX0_load_186 (by decide) r_as ⟨by decide, by decide⟩ rfl (fun c10 => ?_) (fun c10 => ?_)
      · skip
        exact z_vret C dX0_load_194 (Nat.le_of_ble_eq_true rfl) (Nat.le_of_ble_eq_true rfl) ⟨rfl, hok9, (congrArg (fun M9 => zP θ M9 N) (by first | (rw [← eM5, ← eM4]; simp only [zup_up]; done) | (exfalso; omega)))⟩
      · skip
        refine z_aload_n C 190 3 dX0_load_189 rfl rfl ?_
        refine z_null C 191 dX0_load_190 rfl ?_
        rw [show (.null : Value) = va_rf (ldT σ as (v i.toNat)) from (by clear C hκ hκl ; unfold ldT; rw [if_neg (by omega)]; rfl : Value.null = va_rf _)]
        refine z_putf (fs' := [.int (iI (as)), .long (lI (ldB t as (v i.toNat))), va_rf (ldT σ as (v i.toNat))]) C hκ 194 2 zk_X6 o9 (by decide) q254 (Or.inl rfl) rfl (by cases (ldT σ as (v i.toNat)) <;> rfl) (by cases (ldT σ as (v i.toNat)) <;> rfl) (Nat.le_of_ble_eq_true rfl) rfl dX0_load_191 rfl ?_
        obtain ⟨M6, eM6⟩ : ∃ z9 : zMap, zup M5 c (.inr (6, [.int (iI (as)), .long (lI (ldB t as (v i.toNat))), va_rf (ldT σ as (v i.toNat))]) : va_E) = z9 := ⟨_, rfl⟩
        rw [eM6]
        have o11 : M6 c = some (.inr (6, [.int (iI (as)), .long (lI (ldB t as (v i.toNat))), va_rf (ldT σ as (v i.toNat))])) := eM6 ▸ zup_s
        exact z_vret C dX0_load_194 (Nat.le_of_ble_eq_true rfl) (Nat.le_of_ble_eq_true rfl) ⟨rfl, hok9, (congrArg (fun M9 => zP θ M9 N) (by first | (rw [← eM6, ← eM5, ← eM4]; simp only [zup_up]; done) | (exfalso; omega)))⟩
  · skip
    refine z_tsIn C (as) 68 (off := 67) dX0_load_1 c1r (by omega) (by omega) (by rw [c1]; rfl) (by decide) ?_
    refine z_aload_n C 69 3 dX0_load_68 rfl rfl ?_
    refine z_aload_n C 70 0 dX0_load_69 rfl rfl ?_
    refine z_iload_n C 71 1 dX0_load_70 rfl rfl ?_
    refine x_ld1 (rest := [.ref (c)]) (e := e) C hκ hκl hT hZ 74 hM hr hv hln r_i dX0_load_71 (Nat.le_of_ble_eq_true rfl) (Nat.le_of_ble_eq_true rfl) (Nat.le_of_ble_eq_true rfl) (Nat.le_of_ble_eq_true rfl) (Nat.le_of_ble_eq_true rfl) rfl (fun h12 => ?_) (fun E9 c9 b9 hE9 hc9 hz9 => ?_)
    rotate_left 1
    · skip
      refine zx_out C hκ hT XX (fun z9 h9 => by cases h9) ⟨c9, (by rw [c1]; exact hE9), hc9, hz9, rfl⟩ (Nat.le_of_ble_eq_true rfl) (Nat.le_of_ble_eq_true rfl)
    obtain ⟨h12t, h120, h121, h12w⟩ := ld_0 h12 (by decide)
    have h12v := hv i.toNat (by omega)
    have h12u := wd_t h12w
    refine z_as (st' := [.int (iI (v i.toNat)), .ref (c)]) rfl rfl rfl ?_
    refine z_i2l C 75 dX0_load_74 (h12v.2.1 (by omega) (by omega)) rfl ?_
    rw [show (.long (lI (v i.toNat)) : Value) = .long (lI (ldB t as (v i.toNat))) from congrArg (fun z9 => Value.long (lI z9)) ((by clear C hκ hκl ; rw [ldB_n (by omega)]))]
    refine z_putf (fs' := [.int (iI (k0)), .long (lI (ldB t as (v i.toNat))), va_rf (t0)]) C hκ 78 1 zk_X6 hC9 (by decide) q250 (Or.inl rfl) rfl rfl rfl (Nat.le_of_ble_eq_true rfl) rfl dX0_load_75 rfl ?_
    obtain ⟨M7, eM7⟩ : ∃ z9 : zMap, zup M c (.inr (6, [.int (iI (k0)), .long (lI (ldB t as (v i.toNat))), va_rf (t0)]) : va_E) = z9 := ⟨_, rfl⟩
    rw [eM7]
    have o13 : M7 c = some (.inr (6, [.int (iI (k0)), .long (lI (ldB t as (v i.toNat))), va_rf (t0)])) := eM7 ▸ zup_s
    refine z_goto C 178 dX0_load_78 (by decide) ?_
    have hok9 : ldE t ln i as = 0 := by rw [c1]; exact h12
    refine z_aload_n C 179 3 dX0_load_178 rfl rfl ?_
    refine z_iload_n C 180 2 dX0_load_179 rfl rfl ?_
    refine z_putf (fs' := [.int (iI (as)), .long (lI (ldB t as (v i.toNat))), va_rf (t0)]) C hκ 183 0 zk_X6 o13 (by decide) q247 (Or.inl rfl) rfl rfl rfl (Nat.le_of_ble_eq_true rfl) rfl dX0_load_180 rfl ?_
    obtain ⟨M8, eM8⟩ : ∃ z9 : zMap, zup M7 c (.inr (6, [.int (iI (as)), .long (lI (ldB t as (v i.toNat))), va_rf (t0)]) : va_E) = z9 := ⟨_, rfl⟩
    rw [eM8]
    have o14 : M8 c = some (.inr (6, [.int (iI (as)), .long (lI (ldB t as (v i.toNat))), va_rf (t0)])) := eM8 ▸ zup_s
    refine z_iload_n C 184 2 dX0_load_183 rfl rfl ?_
    refine z_bipush C 186 dX0_load_184 (by decide) rfl ?_
    refine z_icmp_eq C 194 189 dX0_load_186 (by decide) r_as ⟨by decide, by decide⟩ rfl (fun c15 => ?_) (fun c15 => ?_)
    · skip
      exact z_vret C dX0_load_194 (Nat.le_of_ble_eq_true rfl) (Nat.le_of_ble_eq_true rfl) ⟨rfl, hok9, (congrArg (fun M9 => zP θ M9 N) (by first | (rw [← eM8, ← eM7]; simp only [zup_up]; done) | (exfalso; omega)))⟩
    · skip
      refine z_aload_n C 190 3 dX0_load_189 rfl rfl ?_
      refine z_null C 191 dX0_load_190 rfl ?_
      rw [show (.null : Value) = va_rf (ldT σ as (v i.toNat)) from (by clear C hκ hκl ; unfold ldT; rw [if_neg (by omega)]; rfl : Value.null = va_rf _)]
      refine z_putf (fs' := [.int (iI (as)), .long (lI (ldB t as (v i.toNat))), va_rf (ldT σ as (v i.toNat))]) C hκ 194 2 zk_X6 o14 (by decide) q254 (Or.inl rfl) rfl (by cases (ldT σ as (v i.toNat)) <;> rfl) (by cases (ldT σ as (v i.toNat)) <;> rfl) (Nat.le_of_ble_eq_true rfl) rfl dX0_load_191 rfl ?_
      obtain ⟨M9, eM9⟩ : ∃ z9 : zMap, zup M8 c (.inr (6, [.int (iI (as)), .long (lI (ldB t as (v i.toNat))), va_rf (ldT σ as (v i.toNat))]) : va_E) = z9 := ⟨_, rfl⟩
      rw [eM9]
      have o16 : M9 c = some (.inr (6, [.int (iI (as)), .long (lI (ldB t as (v i.toNat))), va_rf (ldT σ as (v i.toNat))])) := eM9 ▸ zup_s
      exact z_vret C dX0_load_194 (Nat.le_of_ble_eq_true rfl) (Nat.le_of_ble_eq_true rfl) ⟨rfl, hok9, (congrArg (fun M9 => zP θ M9 N) (by first | (rw [← eM9, ← eM8, ← eM7]; simp only [zup_up]; done) | (exfalso; omega)))⟩
  · skip
    refine z_tsIn C (as) 81 (off := 80) dX0_load_1 c1r (by omega) (by omega) (by rw [c1]; rfl) (by decide) ?_
    refine z_aload_n C 82 3 dX0_load_81 rfl rfl ?_
    refine z_aload_n C 83 0 dX0_load_82 rfl rfl ?_
    refine z_iload_n C 84 1 dX0_load_83 rfl rfl ?_
    refine x_ld2 (rest := [.ref (c)]) (e := e) C hκ hκl hT hZ 87 hM hr hv hln r_i dX0_load_84 (Nat.le_of_ble_eq_true rfl) (Nat.le_of_ble_eq_true rfl) (Nat.le_of_ble_eq_true rfl) (Nat.le_of_ble_eq_true rfl) (Nat.le_of_ble_eq_true rfl) rfl (fun h17 => ?_) (fun E9 c9 b9 hE9 hc9 hz9 => ?_)
    rotate_left 1
    · skip
      refine zx_out C hκ hT XX (fun z9 h9 => by cases h9) ⟨c9, (by rw [c1]; exact hE9), hc9, hz9, rfl⟩ (Nat.le_of_ble_eq_true rfl) (Nat.le_of_ble_eq_true rfl)
    obtain ⟨h17t, h170, h171, h17w⟩ := ld_0 h17 (by decide)
    have h17v := hv i.toNat (by omega)
    have h17u := wd_t h17w
    refine z_as (st' := [.int (iI (v i.toNat)), .ref (c)]) rfl rfl rfl ?_
    refine z_i2l C 88 dX0_load_87 (h17v.2.1 (by omega) (by omega)) rfl ?_
    rw [show (.long (lI (v i.toNat)) : Value) = .long (lI (ldB t as (v i.toNat))) from congrArg (fun z9 => Value.long (lI z9)) ((by clear C hκ hκl ; rw [ldB_n (by omega)]))]
    refine z_putf (fs' := [.int (iI (k0)), .long (lI (ldB t as (v i.toNat))), va_rf (t0)]) C hκ 91 1 zk_X6 hC9 (by decide) q250 (Or.inl rfl) rfl rfl rfl (Nat.le_of_ble_eq_true rfl) rfl dX0_load_88 rfl ?_
    obtain ⟨M10, eM10⟩ : ∃ z9 : zMap, zup M c (.inr (6, [.int (iI (k0)), .long (lI (ldB t as (v i.toNat))), va_rf (t0)]) : va_E) = z9 := ⟨_, rfl⟩
    rw [eM10]
    have o18 : M10 c = some (.inr (6, [.int (iI (k0)), .long (lI (ldB t as (v i.toNat))), va_rf (t0)])) := eM10 ▸ zup_s
    refine z_goto C 178 dX0_load_91 (by decide) ?_
    have hok9 : ldE t ln i as = 0 := by rw [c1]; exact h17
    refine z_aload_n C 179 3 dX0_load_178 rfl rfl ?_
    refine z_iload_n C 180 2 dX0_load_179 rfl rfl ?_
    refine z_putf (fs' := [.int (iI (as)), .long (lI (ldB t as (v i.toNat))), va_rf (t0)]) C hκ 183 0 zk_X6 o18 (by decide) q247 (Or.inl rfl) rfl rfl rfl (Nat.le_of_ble_eq_true rfl) rfl dX0_load_180 rfl ?_
    obtain ⟨M11, eM11⟩ : ∃ z9 : zMap, zup M10 c (.inr (6, [.int (iI (as)), .long (lI (ldB t as (v i.toNat))), va_rf (t0)]) : va_E) = z9 := ⟨_, rfl⟩
    rw [eM11]
    have o19 : M11 c = some (.inr (6, [.int (iI (as)), .long (lI (ldB t as (v i.toNat))), va_rf (t0)])) := eM11 ▸ zup_s
    refine z_iload_n C 184 2 dX0_load_183 rfl rfl ?_
    refine z_bipush C 186 dX0_load_184 (by decide) rfl ?_
    refine z_icmp_eq C 194 189 dX0_load_186 (by decide) r_as ⟨by decide, by decide⟩ rfl (fun c20 => ?_) (fun c20 => ?_)
    · skip
      exact z_vret C dX0_load_194 (Nat.le_of_ble_eq_true rfl) (Nat.le_of_ble_eq_true rfl) ⟨rfl, hok9, (congrArg (fun M9 => zP θ M9 N) (by first | (rw [← eM11, ← eM10]; simp only [zup_up]; done) | (exfalso; omega)))⟩
    · skip
      refine z_aload_n C 190 3 dX0_load_189 rfl rfl ?_
      refine z_null C 191 dX0_load_190 rfl ?_
      rw [show (.null : Value) = va_rf (ldT σ as (v i.toNat)) from (by clear C hκ hκl ; unfold ldT; rw [if_neg (by omega)]; rfl : Value.null = va_rf _)]
      refine z_putf (fs' := [.int (iI (as)), .long (lI (ldB t as (v i.toNat))), va_rf (ldT σ as (v i.toNat))]) C hκ 194 2 zk_X6 o19 (by decide) q254 (Or.inl rfl) rfl (by cases (ldT σ as (v i.toNat)) <;> rfl) (by cases (ldT σ as (v i.toNat)) <;> rfl) (Nat.le_of_ble_eq_true rfl) rfl dX0_load_191 rfl ?_
      obtain ⟨M12, eM12⟩ : ∃ z9 : zMap, zup M11 c (.inr (6, [.int (iI (as)), .long (lI (ldB t as (v i.toNat))), va_rf (ldT σ as (v i.toNat))]) : va_E) = z9 := ⟨_, rfl⟩
      rw [eM12]
      have o21 : M12 c = some (.inr (6, [.int (iI (as)), .long (lI (ldB t as (v i.toNat))), va_rf (ldT σ as (v i.toNat))])) := eM12 ▸ zup_s
      exact z_vret C dX0_load_194 (Nat.le_of_ble_eq_true rfl) (Nat.le_of_ble_eq_true rfl) ⟨rfl, hok9, (congrArg (fun M9 => zP θ M9 N) (by first | (rw [← eM12, ← eM11, ← eM10]; simp only [zup_up]; done) | (exfalso; omega)))⟩
  · skip
    refine z_tsIn C (as) 94 (off := 93) dX0_load_1 c1r (by omega) (by omega) (by rw [c1]; rfl) (by decide) ?_
    refine z_aload_n C 95 3 dX0_load_94 rfl rfl ?_
    refine z_aload_n C 96 0 dX0_load_95 rfl rfl ?_
    refine z_iload_n C 97 1 dX0_load_96 rfl rfl ?_
    refine x_ld3 (rest := [.ref (c)]) (e := e) C hκ hκl hT hZ 100 hM hr hv hln r_i dX0_load_97 (Nat.le_of_ble_eq_true rfl) (Nat.le_of_ble_eq_true rfl) (Nat.le_of_ble_eq_true rfl) (Nat.le_of_ble_eq_true rfl) (Nat.le_of_ble_eq_true rfl) rfl (fun h22 => ?_) (fun E9 c9 b9 hE9 hc9 hz9 => ?_)
    rotate_left 1
    · skip
      refine zx_out C hκ hT XX (fun z9 h9 => by cases h9) ⟨c9, (by rw [c1]; exact hE9), hc9, hz9, rfl⟩ (Nat.le_of_ble_eq_true rfl) (Nat.le_of_ble_eq_true rfl)
    obtain ⟨h22t, h220, h221, h22w⟩ := ld_0 h22 (by decide)
    have h22v := hv i.toNat (by omega)
    have h22u := wd_t h22w
    refine z_as (st' := [.int (iI (v i.toNat)), .ref (c)]) rfl rfl rfl ?_
    refine z_i2l C 101 dX0_load_100 (h22v.2.1 (by omega) (by omega)) rfl ?_
    rw [show (.long (lI (v i.toNat)) : Value) = .long (lI (ldB t as (v i.toNat))) from congrArg (fun z9 => Value.long (lI z9)) ((by clear C hκ hκl ; rw [ldB_n (by omega)]))]
    refine z_putf (fs' := [.int (iI (k0)), .long (lI (ldB t as (v i.toNat))), va_rf (t0)]) C hκ 104 1 zk_X6 hC9 (by decide) q250 (Or.inl rfl) rfl rfl rfl (Nat.le_of_ble_eq_true rfl) rfl dX0_load_101 rfl ?_
    obtain ⟨M13, eM13⟩ : ∃ z9 : zMap, zup M c (.inr (6, [.int (iI (k0)), .long (lI (ldB t as (v i.toNat))), va_rf (t0)]) : va_E) = z9 := ⟨_, rfl⟩
    rw [eM13]
    have o23 : M13 c = some (.inr (6, [.int (iI (k0)), .long (lI (ldB t as (v i.toNat))), va_rf (t0)])) := eM13 ▸ zup_s
    refine z_goto C 178 dX0_load_104 (by decide) ?_
    have hok9 : ldE t ln i as = 0 := by rw [c1]; exact h22
    refine z_aload_n C 179 3 dX0_load_178 rfl rfl ?_
    refine z_iload_n C 180 2 dX0_load_179 rfl rfl ?_
    refine z_putf (fs' := [.int (iI (as)), .long (lI (ldB t as (v i.toNat))), va_rf (t0)]) C hκ 183 0 zk_X6 o23 (by decide) q247 (Or.inl rfl) rfl rfl rfl (Nat.le_of_ble_eq_true rfl) rfl dX0_load_180 rfl ?_
    obtain ⟨M14, eM14⟩ : ∃ z9 : zMap, zup M13 c (.inr (6, [.int (iI (as)), .long (lI (ldB t as (v i.toNat))), va_rf (t0)]) : va_E) = z9 := ⟨_, rfl⟩
    rw [eM14]
    have o24 : M14 c = some (.inr (6, [.int (iI (as)), .long (lI (ldB t as (v i.toNat))), va_rf (t0)])) := eM14 ▸ zup_s
    refine z_iload_n C 184 2 dX0_load_183 rfl rfl ?_
    refine z_bipush C 186 dX0_load_184 (by decide) rfl ?_
    refine z_icmp_eq C 194 189 dX0_load_186 (by decide) r_as ⟨by decide, by decide⟩ rfl (fun c25 => ?_) (fun c25 => ?_)
    · skip
      exact z_vret C dX0_load_194 (Nat.le_of_ble_eq_true rfl) (Nat.le_of_ble_eq_true rfl) ⟨rfl, hok9, (congrArg (fun M9 => zP θ M9 N) (by first | (rw [← eM14, ← eM13]; simp only [zup_up]; done) | (exfalso; omega)))⟩
    · skip
      refine z_aload_n C 190 3 dX0_load_189 rfl rfl ?_
      refine z_null C 191 dX0_load_190 rfl ?_
      rw [show (.null : Value) = va_rf (ldT σ as (v i.toNat)) from (by clear C hκ hκl ; unfold ldT; rw [if_neg (by omega)]; rfl : Value.null = va_rf _)]
      refine z_putf (fs' := [.int (iI (as)), .long (lI (ldB t as (v i.toNat))), va_rf (ldT σ as (v i.toNat))]) C hκ 194 2 zk_X6 o24 (by decide) q254 (Or.inl rfl) rfl (by cases (ldT σ as (v i.toNat)) <;> rfl) (by cases (ldT σ as (v i.toNat)) <;> rfl) (Nat.le_of_ble_eq_true rfl) rfl dX0_load_191 rfl ?_
      obtain ⟨M15, eM15⟩ : ∃ z9 : zMap, zup M14 c (.inr (6, [.int (iI (as)), .long (lI (ldB t as (v i.toNat))), va_rf (ldT σ as (v i.toNat))]) : va_E) = z9 := ⟨_, rfl⟩
      rw [eM15]
      have o26 : M15 c = some (.inr (6, [.int (iI (as)), .long (lI (ldB t as (v i.toNat))), va_rf (ldT σ as (v i.toNat))])) := eM15 ▸ zup_s
      exact z_vret C dX0_load_194 (Nat.le_of_ble_eq_true rfl) (Nat.le_of_ble_eq_true rfl) ⟨rfl, hok9, (congrArg (fun M9 => zP θ M9 N) (by first | (rw [← eM15, ← eM14, ← eM13]; simp only [zup_up]; done) | (exfalso; omega)))⟩
  · skip
    refine z_tsIn C (as) 107 (off := 106) dX0_load_1 c1r (by omega) (by omega) (by rw [c1]; rfl) (by decide) ?_
    refine z_aload_n C 108 3 dX0_load_107 rfl rfl ?_
    refine z_aload_n C 109 0 dX0_load_108 rfl rfl ?_
    refine z_iload_n C 110 1 dX0_load_109 rfl rfl ?_
    refine x_ld4 (rest := [.ref (c)]) (e := e) C hκ hκl hT hZ 113 hM hr hv hln r_i dX0_load_110 (Nat.le_of_ble_eq_true rfl) (Nat.le_of_ble_eq_true rfl) (Nat.le_of_ble_eq_true rfl) (Nat.le_of_ble_eq_true rfl) (Nat.le_of_ble_eq_true rfl) rfl (fun h27 => ?_) (fun E9 c9 b9 hE9 hc9 hz9 => ?_)
    rotate_left 1
    · skip
      refine zx_out C hκ hT XX (fun z9 h9 => by cases h9) ⟨c9, (by rw [c1]; exact hE9), hc9, hz9, rfl⟩ (Nat.le_of_ble_eq_true rfl) (Nat.le_of_ble_eq_true rfl)
    obtain ⟨h27t, h270, h271, h27w⟩ := ld_0 h27 (by decide)
    have h27v := hv i.toNat (by omega)
    have h27u := wd_t h27w
    refine z_as (st' := [.int (iI (v i.toNat)), .ref (c)]) rfl rfl rfl ?_
    refine z_i2l C 114 dX0_load_113 (h27v.2.1 (by omega) (by omega)) rfl ?_
    rw [show (.long (lI (v i.toNat)) : Value) = .long (lI (ldB t as (v i.toNat))) from congrArg (fun z9 => Value.long (lI z9)) ((by clear C hκ hκl ; rw [ldB_n (by omega)]))]
    refine z_putf (fs' := [.int (iI (k0)), .long (lI (ldB t as (v i.toNat))), va_rf (t0)]) C hκ 117 1 zk_X6 hC9 (by decide) q250 (Or.inl rfl) rfl rfl rfl (Nat.le_of_ble_eq_true rfl) rfl dX0_load_114 rfl ?_
    obtain ⟨M16, eM16⟩ : ∃ z9 : zMap, zup M c (.inr (6, [.int (iI (k0)), .long (lI (ldB t as (v i.toNat))), va_rf (t0)]) : va_E) = z9 := ⟨_, rfl⟩
    rw [eM16]
    have o28 : M16 c = some (.inr (6, [.int (iI (k0)), .long (lI (ldB t as (v i.toNat))), va_rf (t0)])) := eM16 ▸ zup_s
    refine z_goto C 178 dX0_load_117 (by decide) ?_
    have hok9 : ldE t ln i as = 0 := by rw [c1]; exact h27
    refine z_aload_n C 179 3 dX0_load_178 rfl rfl ?_
    refine z_iload_n C 180 2 dX0_load_179 rfl rfl ?_
    refine z_putf (fs' := [.int (iI (as)), .long (lI (ldB t as (v i.toNat))), va_rf (t0)]) C hκ 183 0 zk_X6 o28 (by decide) q247 (Or.inl rfl) rfl rfl rfl (Nat.le_of_ble_eq_true rfl) rfl dX0_load_180 rfl ?_
    obtain ⟨M17, eM17⟩ : ∃ z9 : zMap, zup M16 c (.inr (6, [.int (iI (as)), .long (lI (ldB t as (v i.toNat))), va_rf (t0)]) : va_E) = z9 := ⟨_, rfl⟩
    rw [eM17]
    have o29 : M17 c = some (.inr (6, [.int (iI (as)), .long (lI (ldB t as (v i.toNat))), va_rf (t0)])) := eM17 ▸ zup_s
    refine z_iload_n C 184 2 dX0_load_183 rfl rfl ?_
    refine z_bipush C 186 dX0_load_184 (by decide) rfl ?_
    refine z_icmp_eq C 194 189 dX0_load_186 (by decide) r_as ⟨by decide, by decide⟩ rfl (fun c30 => ?_) (fun c30 => ?_)
    · skip
      exact z_vret C dX0_load_194 (Nat.le_of_ble_eq_true rfl) (Nat.le_of_ble_eq_true rfl) ⟨rfl, hok9, (congrArg (fun M9 => zP θ M9 N) (by first | (rw [← eM17, ← eM16]; simp only [zup_up]; done) | (exfalso; omega)))⟩
    · skip
      refine z_aload_n C 190 3 dX0_load_189 rfl rfl ?_
      refine z_null C 191 dX0_load_190 rfl ?_
      rw [show (.null : Value) = va_rf (ldT σ as (v i.toNat)) from (by clear C hκ hκl ; unfold ldT; rw [if_neg (by omega)]; rfl : Value.null = va_rf _)]
      refine z_putf (fs' := [.int (iI (as)), .long (lI (ldB t as (v i.toNat))), va_rf (ldT σ as (v i.toNat))]) C hκ 194 2 zk_X6 o29 (by decide) q254 (Or.inl rfl) rfl (by cases (ldT σ as (v i.toNat)) <;> rfl) (by cases (ldT σ as (v i.toNat)) <;> rfl) (Nat.le_of_ble_eq_true rfl) rfl dX0_load_191 rfl ?_
      obtain ⟨M18, eM18⟩ : ∃ z9 : zMap, zup M17 c (.inr (6, [.int (iI (as)), .long (lI (ldB t as (v i.toNat))), va_rf (ldT σ as (v i.toNat))]) : va_E) = z9 := ⟨_, rfl⟩
      rw [eM18]
      have o31 : M18 c = some (.inr (6, [.int (iI (as)), .long (lI (ldB t as (v i.toNat))), va_rf (ldT σ as (v i.toNat))])) := eM18 ▸ zup_s
      exact z_vret C dX0_load_194 (Nat.le_of_ble_eq_true rfl) (Nat.le_of_ble_eq_true rfl) ⟨rfl, hok9, (congrArg (fun M9 => zP θ M9 N) (by first | (rw [← eM18, ← eM17, ← eM16]; simp only [zup_up]; done) | (exfalso; omega)))⟩
  · skip
    refine z_tsIn C (as) 120 (off := 119) dX0_load_1 c1r (by omega) (by omega) (by rw [c1]; rfl) (by decide) ?_
    refine z_aload_n C 121 3 dX0_load_120 rfl rfl ?_
    refine z_aload_n C 122 0 dX0_load_121 rfl rfl ?_
    refine z_iload_n C 123 1 dX0_load_122 rfl rfl ?_
    refine x_ld5 (rest := [.ref (c)]) (e := e) C hκ hκl hT hZ 126 hM hr hv hln r_i dX0_load_123 (Nat.le_of_ble_eq_true rfl) (Nat.le_of_ble_eq_true rfl) (Nat.le_of_ble_eq_true rfl) (Nat.le_of_ble_eq_true rfl) (Nat.le_of_ble_eq_true rfl) rfl (fun h32 => ?_) (fun E9 c9 b9 hE9 hc9 hz9 => ?_)
    rotate_left 1
    · skip
      refine zx_out C hκ hT XX (fun z9 h9 => by cases h9) ⟨c9, (by rw [c1]; exact hE9), hc9, hz9, rfl⟩ (Nat.le_of_ble_eq_true rfl) (Nat.le_of_ble_eq_true rfl)
    obtain ⟨h32t, h320, h321, h32w⟩ := ld_0 h32 (by decide)
    have h32v := hv i.toNat (by omega)
    have h32u := wd_t h32w
    refine z_as (st' := [.long (lI (v i.toNat)), .ref (c)]) rfl rfl rfl ?_
    rw [show (.long (lI (v i.toNat)) : Value) = .long (lI (ldB t as (v i.toNat))) from congrArg (fun z9 => Value.long (lI z9)) ((by clear C hκ hκl ; rw [ldB_n (by omega)]))]
    refine z_putf (fs' := [.int (iI (k0)), .long (lI (ldB t as (v i.toNat))), va_rf (t0)]) C hκ 129 1 zk_X6 hC9 (by decide) q250 (Or.inl rfl) rfl rfl rfl (Nat.le_of_ble_eq_true rfl) rfl dX0_load_126 rfl ?_
    obtain ⟨M19, eM19⟩ : ∃ z9 : zMap, zup M c (.inr (6, [.int (iI (k0)), .long (lI (ldB t as (v i.toNat))), va_rf (t0)]) : va_E) = z9 := ⟨_, rfl⟩
    rw [eM19]
    have o33 : M19 c = some (.inr (6, [.int (iI (k0)), .long (lI (ldB t as (v i.toNat))), va_rf (t0)])) := eM19 ▸ zup_s
    refine z_goto C 178 dX0_load_129 (by decide) ?_
    have hok9 : ldE t ln i as = 0 := by rw [c1]; exact h32
    refine z_aload_n C 179 3 dX0_load_178 rfl rfl ?_
    refine z_iload_n C 180 2 dX0_load_179 rfl rfl ?_
    refine z_putf (fs' := [.int (iI (as)), .long (lI (ldB t as (v i.toNat))), va_rf (t0)]) C hκ 183 0 zk_X6 o33 (by decide) q247 (Or.inl rfl) rfl rfl rfl (Nat.le_of_ble_eq_true rfl) rfl dX0_load_180 rfl ?_
    obtain ⟨M20, eM20⟩ : ∃ z9 : zMap, zup M19 c (.inr (6, [.int (iI (as)), .long (lI (ldB t as (v i.toNat))), va_rf (t0)]) : va_E) = z9 := ⟨_, rfl⟩
    rw [eM20]
    have o34 : M20 c = some (.inr (6, [.int (iI (as)), .long (lI (ldB t as (v i.toNat))), va_rf (t0)])) := eM20 ▸ zup_s
    refine z_iload_n C 184 2 dX0_load_183 rfl rfl ?_
    refine z_bipush C 186 dX0_load_184 (by decide) rfl ?_
    refine z_icmp_eq C 194 189 dX0_load_186 (by decide) r_as ⟨by decide, by decide⟩ rfl (fun c35 => ?_) (fun c35 => ?_)
    · skip
      exact z_vret C dX0_load_194 (Nat.le_of_ble_eq_true rfl) (Nat.le_of_ble_eq_true rfl) ⟨rfl, hok9, (congrArg (fun M9 => zP θ M9 N) (by first | (rw [← eM20, ← eM19]; simp only [zup_up]; done) | (exfalso; omega)))⟩
    · skip
      refine z_aload_n C 190 3 dX0_load_189 rfl rfl ?_
      refine z_null C 191 dX0_load_190 rfl ?_
      rw [show (.null : Value) = va_rf (ldT σ as (v i.toNat)) from (by clear C hκ hκl ; unfold ldT; rw [if_neg (by omega)]; rfl : Value.null = va_rf _)]
      refine z_putf (fs' := [.int (iI (as)), .long (lI (ldB t as (v i.toNat))), va_rf (ldT σ as (v i.toNat))]) C hκ 194 2 zk_X6 o34 (by decide) q254 (Or.inl rfl) rfl (by cases (ldT σ as (v i.toNat)) <;> rfl) (by cases (ldT σ as (v i.toNat)) <;> rfl) (Nat.le_of_ble_eq_true rfl) rfl dX0_load_191 rfl ?_
      obtain ⟨M21, eM21⟩ : ∃ z9 : zMap, zup M20 c (.inr (6, [.int (iI (as)), .long (lI (ldB t as (v i.toNat))), va_rf (ldT σ as (v i.toNat))]) : va_E) = z9 := ⟨_, rfl⟩
      rw [eM21]
      have o36 : M21 c = some (.inr (6, [.int (iI (as)), .long (lI (ldB t as (v i.toNat))), va_rf (ldT σ as (v i.toNat))])) := eM21 ▸ zup_s
      exact z_vret C dX0_load_194 (Nat.le_of_ble_eq_true rfl) (Nat.le_of_ble_eq_true rfl) ⟨rfl, hok9, (congrArg (fun M9 => zP θ M9 N) (by first | (rw [← eM21, ← eM20, ← eM19]; simp only [zup_up]; done) | (exfalso; omega)))⟩
  · skip
    refine z_tsIn C (as) 132 (off := 131) dX0_load_1 c1r (by omega) (by omega) (by rw [c1]; rfl) (by decide) ?_
    refine z_aload_n C 133 3 dX0_load_132 rfl rfl ?_
    refine z_aload_n C 134 0 dX0_load_133 rfl rfl ?_
    refine z_iload_n C 135 1 dX0_load_134 rfl rfl ?_
    refine x_ld6 (rest := [.ref (c)]) (e := e) C hκ hκl hT hZ 138 hM hr hv hln r_i dX0_load_135 (Nat.le_of_ble_eq_true rfl) (Nat.le_of_ble_eq_true rfl) (Nat.le_of_ble_eq_true rfl) (Nat.le_of_ble_eq_true rfl) (Nat.le_of_ble_eq_true rfl) rfl (fun h37 => ?_) (fun E9 c9 b9 hE9 hc9 hz9 => ?_)
    rotate_left 1
    · skip
      refine zx_out C hκ hT XX (fun z9 h9 => by cases h9) ⟨c9, (by rw [c1]; exact hE9), hc9, hz9, rfl⟩ (Nat.le_of_ble_eq_true rfl) (Nat.le_of_ble_eq_true rfl)
    obtain ⟨h37t, h370, h371, h37w⟩ := ld_0 h37 (by decide)
    have h37v := hv i.toNat (by omega)
    have h37u := wd_t h37w
    refine z_as (st' := [.float (U32 (wdL (v i.toNat) t 6)), .ref (c)]) rfl rfl rfl ?_
    refine z_callS (As := [.float (U32 (wdL (v i.toNat) t 6))]) (rest := [.ref (c)]) C hκ hκl 141 (kF_bits hT (U32 (wdL (v i.toNat) t 6)) (wdl_vg h37v (by omega))) dX0_load_138 q1547 q1548 q133 q1549 znJ15_floatToIntBits (Nat.le_of_ble_eq_true rfl) (Nat.le_of_ble_eq_true rfl) (Nat.le_of_ble_eq_true rfl) (Nat.le_of_ble_eq_true rfl) rfl (Nat.le_of_ble_eq_true rfl) rfl (fun v9 Q9 h9 => ?_)
    obtain ⟨rfl, rfl⟩ := h9
    refine z_as (st' := [.int ((U32 (wdL (v i.toNat) t 6)).toInt32), .ref (c)]) rfl rfl rfl ?_
    rw [show (.int ((U32 (wdL (v i.toNat) t 6)).toInt32) : Value) = .int (iI (wdL (v i.toNat) t 6)) from congrArg Value.int (sJ_32 _)]
    refine z_i2l C 142 dX0_load_141 (wdl_R h37v (by omega)) rfl ?_
    rw [show (.long (lI (wdL (v i.toNat) t 6)) : Value) = .long (lI (ldB t as (v i.toNat))) from congrArg (fun z9 => Value.long (lI z9)) ((by clear C hκ hκl ; rw [ldB_w (by omega), c1]))]
    refine z_putf (fs' := [.int (iI (k0)), .long (lI (ldB t as (v i.toNat))), va_rf (t0)]) C hκ 145 1 zk_X6 hC9 (by decide) q250 (Or.inl rfl) rfl rfl rfl (Nat.le_of_ble_eq_true rfl) rfl dX0_load_142 rfl ?_
    obtain ⟨M22, eM22⟩ : ∃ z9 : zMap, zup M c (.inr (6, [.int (iI (k0)), .long (lI (ldB t as (v i.toNat))), va_rf (t0)]) : va_E) = z9 := ⟨_, rfl⟩
    rw [eM22]
    have o38 : M22 c = some (.inr (6, [.int (iI (k0)), .long (lI (ldB t as (v i.toNat))), va_rf (t0)])) := eM22 ▸ zup_s
    refine z_goto C 178 dX0_load_145 (by decide) ?_
    have hok9 : ldE t ln i as = 0 := by rw [c1]; exact h37
    refine z_aload_n C 179 3 dX0_load_178 rfl rfl ?_
    refine z_iload_n C 180 2 dX0_load_179 rfl rfl ?_
    refine z_putf (fs' := [.int (iI (as)), .long (lI (ldB t as (v i.toNat))), va_rf (t0)]) C hκ 183 0 zk_X6 o38 (by decide) q247 (Or.inl rfl) rfl rfl rfl (Nat.le_of_ble_eq_true rfl) rfl dX0_load_180 rfl ?_
    obtain ⟨M23, eM23⟩ : ∃ z9 : zMap, zup M22 c (.inr (6, [.int (iI (as)), .long (lI (ldB t as (v i.toNat))), va_rf (t0)]) : va_E) = z9 := ⟨_, rfl⟩
    rw [eM23]
    have o39 : M23 c = some (.inr (6, [.int (iI (as)), .long (lI (ldB t as (v i.toNat))), va_rf (t0)])) := eM23 ▸ zup_s
    refine z_iload_n C 184 2 dX0_load_183 rfl rfl ?_
    refine z_bipush C 186 dX0_load_184 (by decide) rfl ?_
    refine z_icmp_eq C 194 189 dX0_load_186 (by decide) r_as ⟨by decide, by decide⟩ rfl (fun c40 => ?_) (fun c40 => ?_)
    · skip
      exact z_vret C dX0_load_194 (Nat.le_of_ble_eq_true rfl) (Nat.le_of_ble_eq_true rfl) ⟨rfl, hok9, (congrArg (fun M9 => zP θ M9 N) (by first | (rw [← eM23, ← eM22]; simp only [zup_up]; done) | (exfalso; omega)))⟩
    · skip
      refine z_aload_n C 190 3 dX0_load_189 rfl rfl ?_
      refine z_null C 191 dX0_load_190 rfl ?_
      rw [show (.null : Value) = va_rf (ldT σ as (v i.toNat)) from (by clear C hκ hκl ; unfold ldT; rw [if_neg (by omega)]; rfl : Value.null = va_rf _)]
      refine z_putf (fs' := [.int (iI (as)), .long (lI (ldB t as (v i.toNat))), va_rf (ldT σ as (v i.toNat))]) C hκ 194 2 zk_X6 o39 (by decide) q254 (Or.inl rfl) rfl (by cases (ldT σ as (v i.toNat)) <;> rfl) (by cases (ldT σ as (v i.toNat)) <;> rfl) (Nat.le_of_ble_eq_true rfl) rfl dX0_load_191 rfl ?_
      obtain ⟨M24, eM24⟩ : ∃ z9 : zMap, zup M23 c (.inr (6, [.int (iI (as)), .long (lI (ldB t as (v i.toNat))), va_rf (ldT σ as (v i.toNat))]) : va_E) = z9 := ⟨_, rfl⟩
      rw [eM24]
      have o41 : M24 c = some (.inr (6, [.int (iI (as)), .long (lI (ldB t as (v i.toNat))), va_rf (ldT σ as (v i.toNat))])) := eM24 ▸ zup_s
      exact z_vret C dX0_load_194 (Nat.le_of_ble_eq_true rfl) (Nat.le_of_ble_eq_true rfl) ⟨rfl, hok9, (congrArg (fun M9 => zP θ M9 N) (by first | (rw [← eM24, ← eM23, ← eM22]; simp only [zup_up]; done) | (exfalso; omega)))⟩
  · skip
    refine z_tsIn C (as) 148 (off := 147) dX0_load_1 c1r (by omega) (by omega) (by rw [c1]; rfl) (by decide) ?_
    refine z_aload_n C 149 3 dX0_load_148 rfl rfl ?_
    refine z_aload_n C 150 0 dX0_load_149 rfl rfl ?_
    refine z_iload_n C 151 1 dX0_load_150 rfl rfl ?_
    refine x_ld7 (rest := [.ref (c)]) (e := e) C hκ hκl hT hZ 154 hM hr hv hln r_i dX0_load_151 (Nat.le_of_ble_eq_true rfl) (Nat.le_of_ble_eq_true rfl) (Nat.le_of_ble_eq_true rfl) (Nat.le_of_ble_eq_true rfl) (Nat.le_of_ble_eq_true rfl) rfl (fun h42 => ?_) (fun E9 c9 b9 hE9 hc9 hz9 => ?_)
    rotate_left 1
    · skip
      refine zx_out C hκ hT XX (fun z9 h9 => by cases h9) ⟨c9, (by rw [c1]; exact hE9), hc9, hz9, rfl⟩ (Nat.le_of_ble_eq_true rfl) (Nat.le_of_ble_eq_true rfl)
    obtain ⟨h42t, h420, h421, h42w⟩ := ld_0 h42 (by decide)
    have h42v := hv i.toNat (by omega)
    have h42u := wd_t h42w
    refine z_as (st' := [.double (U64 (wdL (v i.toNat) t 7)), .ref (c)]) rfl rfl rfl ?_
    refine z_callS (As := [.double (U64 (wdL (v i.toNat) t 7))]) (rest := [.ref (c)]) C hκ hκl 157 (kD_bits hT (U64 (wdL (v i.toNat) t 7)) (wdl_vf h42v (by omega))) dX0_load_154 q1560 q1561 q134 q1562 znJ16_doubleToLongBits (Nat.le_of_ble_eq_true rfl) (Nat.le_of_ble_eq_true rfl) (Nat.le_of_ble_eq_true rfl) (Nat.le_of_ble_eq_true rfl) rfl (Nat.le_of_ble_eq_true rfl) rfl (fun v9 Q9 h9 => ?_)
    obtain ⟨rfl, rfl⟩ := h9
    refine z_as (st' := [.long ((U64 (wdL (v i.toNat) t 7)).toInt64), .ref (c)]) rfl rfl rfl ?_
    rw [show (.long ((U64 (wdL (v i.toNat) t 7)).toInt64) : Value) = .long (lI (ldB t as (v i.toNat))) from congrArg Value.long ((sI_64 _).trans (congrArg lI (by clear C hκ hκl ; rw [ldB_w (by omega), c1])))]
    refine z_putf (fs' := [.int (iI (k0)), .long (lI (ldB t as (v i.toNat))), va_rf (t0)]) C hκ 160 1 zk_X6 hC9 (by decide) q250 (Or.inl rfl) rfl rfl rfl (Nat.le_of_ble_eq_true rfl) rfl dX0_load_157 rfl ?_
    obtain ⟨M25, eM25⟩ : ∃ z9 : zMap, zup M c (.inr (6, [.int (iI (k0)), .long (lI (ldB t as (v i.toNat))), va_rf (t0)]) : va_E) = z9 := ⟨_, rfl⟩
    rw [eM25]
    have o43 : M25 c = some (.inr (6, [.int (iI (k0)), .long (lI (ldB t as (v i.toNat))), va_rf (t0)])) := eM25 ▸ zup_s
    refine z_goto C 178 dX0_load_160 (by decide) ?_
    have hok9 : ldE t ln i as = 0 := by rw [c1]; exact h42
    refine z_aload_n C 179 3 dX0_load_178 rfl rfl ?_
    refine z_iload_n C 180 2 dX0_load_179 rfl rfl ?_
    refine z_putf (fs' := [.int (iI (as)), .long (lI (ldB t as (v i.toNat))), va_rf (t0)]) C hκ 183 0 zk_X6 o43 (by decide) q247 (Or.inl rfl) rfl rfl rfl (Nat.le_of_ble_eq_true rfl) rfl dX0_load_180 rfl ?_
    obtain ⟨M26, eM26⟩ : ∃ z9 : zMap, zup M25 c (.inr (6, [.int (iI (as)), .long (lI (ldB t as (v i.toNat))), va_rf (t0)]) : va_E) = z9 := ⟨_, rfl⟩
    rw [eM26]
    have o44 : M26 c = some (.inr (6, [.int (iI (as)), .long (lI (ldB t as (v i.toNat))), va_rf (t0)])) := eM26 ▸ zup_s
    refine z_iload_n C 184 2 dX0_load_183 rfl rfl ?_
    refine z_bipush C 186 dX0_load_184 (by decide) rfl ?_
    refine z_icmp_eq C 194 189 dX0_load_186 (by decide) r_as ⟨by decide, by decide⟩ rfl (fun c45 => ?_) (fun c45 => ?_)
    · skip
      exact z_vret C dX0_load_194 (Nat.le_of_ble_eq_true rfl) (Nat.le_of_ble_eq_true rfl) ⟨rfl, hok9, (congrArg (fun M9 => zP θ M9 N) (by first | (rw [← eM26, ← eM25]; simp only [zup_up]; done) | (exfalso; omega)))⟩
    · skip
      refine z_aload_n C 190 3 dX0_load_189 rfl rfl ?_
      refine z_null C 191 dX0_load_190 rfl ?_
      rw [show (.null : Value) = va_rf (ldT σ as (v i.toNat)) from (by clear C hκ hκl ; unfold ldT; rw [if_neg (by omega)]; rfl : Value.null = va_rf _)]
      refine z_putf (fs' := [.int (iI (as)), .long (lI (ldB t as (v i.toNat))), va_rf (ldT σ as (v i.toNat))]) C hκ 194 2 zk_X6 o44 (by decide) q254 (Or.inl rfl) rfl (by cases (ldT σ as (v i.toNat)) <;> rfl) (by cases (ldT σ as (v i.toNat)) <;> rfl) (Nat.le_of_ble_eq_true rfl) rfl dX0_load_191 rfl ?_
      obtain ⟨M27, eM27⟩ : ∃ z9 : zMap, zup M26 c (.inr (6, [.int (iI (as)), .long (lI (ldB t as (v i.toNat))), va_rf (ldT σ as (v i.toNat))]) : va_E) = z9 := ⟨_, rfl⟩
      rw [eM27]
      have o46 : M27 c = some (.inr (6, [.int (iI (as)), .long (lI (ldB t as (v i.toNat))), va_rf (ldT σ as (v i.toNat))])) := eM27 ▸ zup_s
      exact z_vret C dX0_load_194 (Nat.le_of_ble_eq_true rfl) (Nat.le_of_ble_eq_true rfl) ⟨rfl, hok9, (congrArg (fun M9 => zP θ M9 N) (by first | (rw [← eM27, ← eM26, ← eM25]; simp only [zup_up]; done) | (exfalso; omega)))⟩
  · skip
    refine z_tsOut C 163 dX0_load_1 c1r c1 (by decide) ?_
    refine z_aload_n C 164 3 dX0_load_163 rfl rfl ?_
    refine z_aload_n C 165 0 dX0_load_164 rfl rfl ?_
    refine zx_callS (As := [.ref (a)]) (rest := [.ref (c)]) C hκ hκl 168 (k0_references hT hZ (a) (t) (ln) (v) (e) hM hr) dX0_load_165 q1570 q1571 q90 q1572 znX0_references (Nat.le_of_ble_eq_true rfl) (Nat.le_of_ble_eq_true rfl) (Nat.le_of_ble_eq_true rfl) (Nat.le_of_ble_eq_true rfl) rfl (Nat.le_of_ble_eq_true rfl) rfl (fun v9 Q9 h9 => ?_) (fun E9 b9 Q9 h9 => ?_)
    rotate_left 1
    · skip
      obtain ⟨hnr47, er47, rfl⟩ := h9
      refine zx_out C hκ hT XX (fun z9 h9 => by cases h9) ⟨2, (by clear C hκ hκl ; have e8 : as = 8 := (by omega); rw [e8]; exact if_pos (Or.inl ⟨rfl, by omega⟩)), by decide, er47, rfl⟩ (Nat.le_of_ble_eq_true rfl) (Nat.le_of_ble_eq_true rfl)
    obtain ⟨rfl, hnr48, rfl⟩ := h9
    refine z_as (st' := [.ref (a), .ref (c)]) rfl rfl rfl ?_
    refine z_widen (n' := 1) (k' := 6) (Nat.le_refl _) (Nat.le_refl _) ?_
    refine z_iload_n C 169 1 dX0_load_168 rfl rfl ?_
    refine x_ld8 (rest := [.ref (c)]) (e := e) C hκ hκl hT hZ 170 hM hr hnr48 hln r_i dX0_load_169 (Nat.le_of_ble_eq_true rfl) (Nat.le_of_ble_eq_true rfl) (Nat.le_of_ble_eq_true rfl) (Nat.le_of_ble_eq_true rfl) (Nat.le_of_ble_eq_true rfl) rfl (fun h49 => ?_) (fun E9 c9 b9 hE9 hc9 hz9 => ?_)
    rotate_left 1
    · skip
      refine zx_out C hκ hT XX (fun z9 h9 => by cases h9) ⟨c9, (by clear C hκ hκl ; have e8 : as = 8 := (by omega); rw [e8]; exact hE9), hc9, hz9, rfl⟩ (Nat.le_of_ble_eq_true rfl) (Nat.le_of_ble_eq_true rfl)
    refine z_as (st' := [va_rf (xo σ 30 (v i.toNat)), .ref (c)]) rfl rfl rfl ?_
    rw [show (va_rf (xo σ 30 (v i.toNat)) : Value) = va_rf (ldT σ as (v i.toNat)) from congrArg va_rf (by clear C hκ hκl ; unfold ldT; rw [if_pos (by omega)])]
    refine z_putf (fs' := [.int (iI (k0)), .long (lI (b0)), va_rf (ldT σ as (v i.toNat))]) C hκ 173 2 zk_X6 hC9 (by decide) q254 (Or.inl rfl) rfl (by cases (ldT σ as (v i.toNat)) <;> rfl) (by cases (ldT σ as (v i.toNat)) <;> rfl) (Nat.le_of_ble_eq_true rfl) rfl dX0_load_170 rfl ?_
    obtain ⟨M28, eM28⟩ : ∃ z9 : zMap, zup M c (.inr (6, [.int (iI (k0)), .long (lI (b0)), va_rf (ldT σ as (v i.toNat))]) : va_E) = z9 := ⟨_, rfl⟩
    rw [eM28]
    have o50 : M28 c = some (.inr (6, [.int (iI (k0)), .long (lI (b0)), va_rf (ldT σ as (v i.toNat))])) := eM28 ▸ zup_s
    refine z_aload_n C 174 3 dX0_load_173 rfl rfl ?_
    refine z_lconst (x := 0) C 175 dX0_load_174 rfl rfl ?_
    rw [show (.long (lI (0)) : Value) = .long (lI (ldB t as (v i.toNat))) from congrArg (fun z9 => Value.long (lI z9)) (by clear C hκ hκl ; unfold ldB; rw [if_pos (by omega)])]
    refine z_putf (fs' := [.int (iI (k0)), .long (lI (ldB t as (v i.toNat))), va_rf (ldT σ as (v i.toNat))]) C hκ 178 1 zk_X6 o50 (by decide) q250 (Or.inl rfl) rfl rfl rfl (Nat.le_of_ble_eq_true rfl) rfl dX0_load_175 rfl ?_
    obtain ⟨M29, eM29⟩ : ∃ z9 : zMap, zup M28 c (.inr (6, [.int (iI (k0)), .long (lI (ldB t as (v i.toNat))), va_rf (ldT σ as (v i.toNat))]) : va_E) = z9 := ⟨_, rfl⟩
    rw [eM29]
    have o51 : M29 c = some (.inr (6, [.int (iI (k0)), .long (lI (ldB t as (v i.toNat))), va_rf (ldT σ as (v i.toNat))])) := eM29 ▸ zup_s
    have hok9 : ldE t ln i as = 0 := by have e8 : as = 8 := (by omega); rw [e8]; exact h49
    refine z_aload_n C 179 3 dX0_load_178 rfl rfl ?_
    refine z_iload_n C 180 2 dX0_load_179 rfl rfl ?_
    refine z_putf (fs' := [.int (iI (as)), .long (lI (ldB t as (v i.toNat))), va_rf (ldT σ as (v i.toNat))]) C hκ 183 0 zk_X6 o51 (by decide) q247 (Or.inl rfl) rfl rfl rfl (Nat.le_of_ble_eq_true rfl) rfl dX0_load_180 rfl ?_
    obtain ⟨M30, eM30⟩ : ∃ z9 : zMap, zup M29 c (.inr (6, [.int (iI (as)), .long (lI (ldB t as (v i.toNat))), va_rf (ldT σ as (v i.toNat))]) : va_E) = z9 := ⟨_, rfl⟩
    rw [eM30]
    have o52 : M30 c = some (.inr (6, [.int (iI (as)), .long (lI (ldB t as (v i.toNat))), va_rf (ldT σ as (v i.toNat))])) := eM30 ▸ zup_s
    refine z_iload_n C 184 2 dX0_load_183 rfl rfl ?_
    refine z_bipush C 186 dX0_load_184 (by decide) rfl ?_
    refine z_icmp_eq C 194 189 dX0_load_186 (by decide) r_as ⟨by decide, by decide⟩ rfl (fun c53 => ?_) (fun c53 => ?_)
    · skip
      exact z_vret C dX0_load_194 (Nat.le_of_ble_eq_true rfl) (Nat.le_of_ble_eq_true rfl) ⟨rfl, hok9, (congrArg (fun M9 => zP θ M9 N) (by first | (rw [← eM30, ← eM29, ← eM28]; simp only [zup_up]; done) | (exfalso; omega)))⟩
    · skip
      refine z_aload_n C 190 3 dX0_load_189 rfl rfl ?_
      refine z_null C 191 dX0_load_190 rfl ?_
      rw [show (.null : Value) = va_rf (ldT σ as (v i.toNat)) from (by clear C hκ hκl ; unfold ldT; rw [if_neg (by omega)]; rfl : Value.null = va_rf _)]
      refine z_putf (fs' := [.int (iI (as)), .long (lI (ldB t as (v i.toNat))), va_rf (ldT σ as (v i.toNat))]) C hκ 194 2 zk_X6 o52 (by decide) q254 (Or.inl rfl) rfl (by cases (ldT σ as (v i.toNat)) <;> rfl) (by cases (ldT σ as (v i.toNat)) <;> rfl) (Nat.le_of_ble_eq_true rfl) rfl dX0_load_191 rfl ?_
      obtain ⟨M31, eM31⟩ : ∃ z9 : zMap, zup M30 c (.inr (6, [.int (iI (as)), .long (lI (ldB t as (v i.toNat))), va_rf (ldT σ as (v i.toNat))]) : va_E) = z9 := ⟨_, rfl⟩
      rw [eM31]
      have o54 : M31 c = some (.inr (6, [.int (iI (as)), .long (lI (ldB t as (v i.toNat))), va_rf (ldT σ as (v i.toNat))])) := eM31 ▸ zup_s
      exact z_vret C dX0_load_194 (Nat.le_of_ble_eq_true rfl) (Nat.le_of_ble_eq_true rfl) ⟨rfl, hok9, (congrArg (fun M9 => zP θ M9 N) (by first | (rw [← eM31, ← eM30, ← eM29, ← eM28]; simp only [zup_up]; done) | (exfalso; omega)))⟩
