theorem zlen32 (n : Nat) : n.toInt32 = iI (n : Int) := by
  show Int32.ofNat n = Int32.ofInt (n : Int)
  first | rfl | simp [Int32.ofInt_eq_ofNat] | (apply Int32.toBitVec_inj.mp; simp)
section ZNX
variable {κ : zK} {own nm : String} {cc : ByteArray} {nL : Nat} {ret : Option FieldType} {rm : Room} {P : Option Value → (Heap → Prop) → Prop} {n k pc index t0 t1 : Nat} {lv : List (Nat × Value)} {st rest : List Value}
variable {θ : zTh} {l : Launch} {M N : zMap} {a b : Nat} {x z : vp_A} {cA cB : ClassId} {ty ty1 X : FieldType} {i j w : Int}
theorem zn_cpMis (C : ZC κ own nm cc nL ret rm P) (hκ : κ.1 = θ) (hκl : κ.2.2.1 = l) (hT : zTb θ) (hZ : zTx θ l) (hM : M a = some (.inl (cA, x))) (ht : (zTys θ)[t0]? = some (cA, ty)) (hMb : M b = some (.inl (cB, z))) (ht1 : (zTys θ)[t1]? = some (cB, ty1)) (m1 : x.1 ≤ 2147483647) (m2 : z.1 ≤ 2147483647) (hty : ((refKind ty != refKind ty1) || (!refKind ty && ty != ty1)) = true) (hw0 : zNc1 arraycopyName own index) (d : decode cc pc = .ok (.invokestatic index, 3)) (hf : 9 ≤ rm.frames) (hlo : 10250 ≤ rm.locals) (hsz : (rest.map fun v => v.category).sum ≤ 8) (hce : n + 3 ≤ rm.cells) (hsl : k + 410 ≤ rm.slots) (kx : ∀ b : Nat, zX κ (zP θ M N) (n + 3) (k + 410) pc lv b "java/lang/ArrayStoreException") : Z κ (zP θ M N) n k pc lv (.int (iI w) :: .int (iI j) :: .ref b :: .int (iI i) :: .ref a :: rest) := by
  subst hκ; subst hκl
  obtain ⟨θ, p, l, e, R, s, m, args, below, meth, c, Q⟩ := κ
  obtain ⟨hx, hb, hml, hown, hts, hU, hlk, hret, hnm, rfl, hQ⟩ := C
  have hK := hU.2.2.2
  obtain ⟨w1, w2, w3, w4⟩ := hw0
  intro H locs ls hP hS hl
  refine zn_W hx (x := arraycopyName) (ps := [.object "java/lang/Object", .int, .object "java/lang/Object", .int, .int]) (ret := none) (argsL := [.ref a, .int (iI i), .ref b, .int (iI j), .int (iI w)]) (rest := rest) hb hl.1 hown (hts _ w1) (hts _ w2) (hts _ w3) (hts _ w4) (by decide +kernel) (by decide) rfl d (by omega) (by have e1 : operandWords [.ref a, .int (iI i), .ref b, .int (iI j), .int (iI w)] = 5 := rfl; have e2 : nativeFrameWords "java/lang/System" "arraycopy" 5 = 7 := (by decide +kernel); show (rest.map fun v => v.category).sum + (nativeFrameWords "java/lang/System" "arraycopy" (operandWords [.ref a, .int (iI i), .ref b, .int (iI j), .int (iI w)]) + 11) ≤ _; rw [e1, e2]; omega) (fun T hT9 X9 m9 k9 meth9 N9 hroom => ?_)
  have hal := X9.warmed.alike
  have hcell : T.heap[a]? = some (vp_cell cA x) := by rw [hT9]; exact (hP.1 a _ hM).1
  have hcell2 : T.heap[b]? = some (vp_cell cB z) := by rw [hT9]; exact (hP.1 b _ hMb).1
  obtain ⟨hobj, kA, hkA, comp, hkind⟩ := arrOfT_moved hal (hK.2 t0 _ ht).1 x.1 (zvl x)
  obtain ⟨hobj2, kB, hkB, comp2, hkind2⟩ := arrOfT_moved hal (hK.2 t1 _ ht1).1 z.1 (zvl z)
  rw [← zvl_cell] at hobj hkA hobj2 hkB
  have hsize : (vp_cell cA x).slots.size = x.1 := by rw [zvl_cell, arrV_size]
  have hsize2 : (vp_cell cB z).slots.size = z.1 := by rw [zvl_cell, arrV_size]
  have hseen : seenByNative meth9 #[.ref a, .int (iI i), .ref b, .int (iI j), .int (iI w)] = #[.ref a, .int (iI i), .ref b, .int (iI j), .int (iI w)] := by simp [seenByNative, N9.static, N9.sig, narrow]
  obtain ⟨msg, hD, st9⟩ := zn_throwsE (tb := p.tables) (e := e) (below := below) (row := arraycopyRow) (args := #[.ref a, .int (iI i), .ref b, .int (iI j), .int (iI w)]) (g := F0 m pc ls rest) X9.here N9.cls N9.meth N9.boot N9.native N9.noCode N9.noLock (by rw [N9.className, N9.name, N9.desc]; exact arraycopy_row p) (by rw [N9.className, N9.name]; exact hroom) (cls := "java/lang/ArrayStoreException") (D := zTxt) (fun E9 hq => by
    rw [hseen] at hq ⊢
    rw [arraycopyRow_sem]
    exact zw_cpMis hcell hcell2 hobj hobj2 hkA hkB hkind hkind2 hty (fun msg hm acts' => hq msg hm acts'))
  obtain ⟨t, a1, b1⟩ := (show zo_Note p l e R s m args below meth c H locs n k Q (F0 m pc ls rest) "java/lang/ArrayStoreException" (some msg) from zo_zS (names := ["java/lang/RuntimeException", "java/lang/Exception"]) (nb := 400) hx hts hU hlk hT hZ (by decide +kernel) (by decide +kernel) (by decide +kernel) (by decide +kernel) xat_S hP hS hl hD.1 hD.2 (by decide) (by simp only [List.length_cons, List.length_nil]; omega) hlo (by omega) (by decide) hce hsl kx) T hT9 X9 { method := m9, args := seenByNative meth9 #[.ref a, .int (iI i), .ref b, .int (iI j), .int (iI w)], locked := none } rfl rfl rfl
  exact ⟨t, fun acts => st9 acts t a1, b1⟩
theorem zn_cpOut (C : ZC κ own nm cc nL ret rm P) (hκ : κ.1 = θ) (hκl : κ.2.2.1 = l) (hT : zTb θ) (hZ : zTx θ l) (hM : M a = some (.inl (cA, x))) (ht : (zTys θ)[t0]? = some (cA, ty)) (hMb : M b = some (.inl (cB, z))) (ht1 : (zTys θ)[t1]? = some (cB, ty1)) (m1 : x.1 ≤ 2147483647) (m2 : z.1 ≤ 2147483647) (hty : ((refKind ty != refKind ty1) || (!refKind ty && ty != ty1)) = false) (ri : inR i) (rj : inR j) (rw9 : inR w) (hout : i < 0 ∨ j < 0 ∨ w < 0 ∨ (x.1 : Int) < i + w ∨ (z.1 : Int) < j + w) (hw0 : zNc1 arraycopyName own index) (d : decode cc pc = .ok (.invokestatic index, 3)) (hf : 9 ≤ rm.frames) (hlo : 10250 ≤ rm.locals) (hsz : (rest.map fun v => v.category).sum ≤ 8) (hce : n + 3 ≤ rm.cells) (hsl : k + 410 ≤ rm.slots) (kx : ∀ b : Nat, zX κ (zP θ M N) (n + 3) (k + 410) pc lv b "java/lang/ArrayIndexOutOfBoundsException") : Z κ (zP θ M N) n k pc lv (.int (iI w) :: .int (iI j) :: .ref b :: .int (iI i) :: .ref a :: rest) := by
  subst hκ; subst hκl
  obtain ⟨θ, p, l, e, R, s, m, args, below, meth, c, Q⟩ := κ
  obtain ⟨hx, hb, hml, hown, hts, hU, hlk, hret, hnm, rfl, hQ⟩ := C
  have hK := hU.2.2.2
  obtain ⟨w1, w2, w3, w4⟩ := hw0
  intro H locs ls hP hS hl
  refine zn_W hx (x := arraycopyName) (ps := [.object "java/lang/Object", .int, .object "java/lang/Object", .int, .int]) (ret := none) (argsL := [.ref a, .int (iI i), .ref b, .int (iI j), .int (iI w)]) (rest := rest) hb hl.1 hown (hts _ w1) (hts _ w2) (hts _ w3) (hts _ w4) (by decide +kernel) (by decide) rfl d (by omega) (by have e1 : operandWords [.ref a, .int (iI i), .ref b, .int (iI j), .int (iI w)] = 5 := rfl; have e2 : nativeFrameWords "java/lang/System" "arraycopy" 5 = 7 := (by decide +kernel); show (rest.map fun v => v.category).sum + (nativeFrameWords "java/lang/System" "arraycopy" (operandWords [.ref a, .int (iI i), .ref b, .int (iI j), .int (iI w)]) + 11) ≤ _; rw [e1, e2]; omega) (fun T hT9 X9 m9 k9 meth9 N9 hroom => ?_)
  have hal := X9.warmed.alike
  have hcell : T.heap[a]? = some (vp_cell cA x) := by rw [hT9]; exact (hP.1 a _ hM).1
  have hcell2 : T.heap[b]? = some (vp_cell cB z) := by rw [hT9]; exact (hP.1 b _ hMb).1
  obtain ⟨hobj, kA, hkA, comp, hkind⟩ := arrOfT_moved hal (hK.2 t0 _ ht).1 x.1 (zvl x)
  obtain ⟨hobj2, kB, hkB, comp2, hkind2⟩ := arrOfT_moved hal (hK.2 t1 _ ht1).1 z.1 (zvl z)
  rw [← zvl_cell] at hobj hkA hobj2 hkB
  have hsize : (vp_cell cA x).slots.size = x.1 := by rw [zvl_cell, arrV_size]
  have hsize2 : (vp_cell cB z).slots.size = z.1 := by rw [zvl_cell, arrV_size]
  have hseen : seenByNative meth9 #[.ref a, .int (iI i), .ref b, .int (iI j), .int (iI w)] = #[.ref a, .int (iI i), .ref b, .int (iI j), .int (iI w)] := by simp [seenByNative, N9.static, N9.sig, narrow]
  have hout' : iI i < 0 ∨ iI j < 0 ∨ iI w < 0 ∨ (iI i).toInt + (iI w).toInt > ((vp_cell cA x).slots.size : Int) ∨ (iI j).toInt + (iI w).toInt > ((vp_cell cB z).slots.size : Int) := by
    rw [hsize, hsize2, Int32.lt_iff_toInt_lt, Int32.lt_iff_toInt_lt, Int32.lt_iff_toInt_lt, iI_toInt ri, iI_toInt rj, iI_toInt rw9]
    show i < 0 ∨ j < 0 ∨ w < 0 ∨ _
    omega
  obtain ⟨msg, hD, st9⟩ := zn_throwsE (tb := p.tables) (e := e) (below := below) (row := arraycopyRow) (args := #[.ref a, .int (iI i), .ref b, .int (iI j), .int (iI w)]) (g := F0 m pc ls rest) X9.here N9.cls N9.meth N9.boot N9.native N9.noCode N9.noLock (by rw [N9.className, N9.name, N9.desc]; exact arraycopy_row p) (by rw [N9.className, N9.name]; exact hroom) (cls := "java/lang/ArrayIndexOutOfBoundsException") (D := zTxt) (fun E9 hq => by
    rw [hseen] at hq ⊢
    rw [arraycopyRow_sem]
    exact zw_cpOut hcell hcell2 hobj hobj2 hkA hkB hkind hkind2 hty (by rw [hsize]; exact m1) (by rw [hsize2]; exact m2) hout' (fun msg hm acts' => hq msg hm acts'))
  obtain ⟨t, a1, b1⟩ := (show zo_Note p l e R s m args below meth c H locs n k Q (F0 m pc ls rest) "java/lang/ArrayIndexOutOfBoundsException" (some msg) from zo_zS (names := ["java/lang/IndexOutOfBoundsException", "java/lang/RuntimeException", "java/lang/Exception"]) (nb := 400) hx hts hU hlk hT hZ (by decide +kernel) (by decide +kernel) (by decide +kernel) (by decide +kernel) xat_A hP hS hl hD.1 hD.2 (by decide) (by simp only [List.length_cons, List.length_nil]; omega) hlo (by omega) (by decide) hce hsl kx) T hT9 X9 { method := m9, args := seenByNative meth9 #[.ref a, .int (iI i), .ref b, .int (iI j), .int (iI w)], locked := none } rfl rfl rfl
  exact ⟨t, fun acts => st9 acts t a1, b1⟩
theorem zn_cpOk (C : ZC κ own nm cc nL ret rm P) (hκ : κ.1 = θ) (hκl : κ.2.2.1 = l) (hT : zTb θ) (q : Nat) (hM : M a = some (.inl (cA, x))) (ht : (zTys θ)[t0]? = some (cA, ty)) (hMb : M b = some (.inl (cB, z))) (ht1 : (zTys θ)[t1]? = some (cB, ty1)) (m1 : x.1 ≤ 2147483647) (m2 : z.1 ≤ 2147483647) (hty : ((refKind ty != refKind ty1) || (!refKind ty && ty != ty1)) = false) (hss : zss x z) (h0 : 0 ≤ i) (h1 : 0 ≤ j) (h2 : 0 ≤ w) (h3 : i + w ≤ (x.1 : Int)) (h4 : j + w ≤ (z.1 : Int)) (hvals : ∀ r : Nat, (r : Int) < w → fits ty1 (zvl x (i.toNat + r)) = true ∧ ∀ o : Nat, zvl x (i.toNat + r) = .ref o → ∃ (ci N9 : Nat) (Cn : String) (T9 : u_T) (fs : List Value) (E : String), ty1 = .object E ∧ M o = some (.inr (ci, fs)) ∧ zCl[ci]? = some (Cn, T9, N9) ∧ (Cn = E ∨ Cond.castable Cn E ∈ lw_tbl)) (hw0 : zNc1 arraycopyName own index) (d : decode cc pc = .ok (.invokestatic index, 3)) (hf : 1 ≤ rm.frames) (hlo : 60 ≤ rm.locals) (hsz : (rest.map fun v => v.category).sum ≤ 8) (hq : pc + 3 = q) (kk : Z κ (zP θ (zup M b (.inl (cB, zcp x z i.toNat j.toNat w.toNat))) N) n k q lv rest) : Z κ (zP θ M N) n k pc lv (.int (iI w) :: .int (iI j) :: .ref b :: .int (iI i) :: .ref a :: rest) := by
  subst hq
  subst hκ; subst hκl
  obtain ⟨θ, p, l, e, R, s, m, args, below, meth, c, Q⟩ := κ
  obtain ⟨hx, hb, hml, hown, hts, hU, hlk, hret, hnm, rfl, hQ⟩ := C
  have hK := hU.2.2.2
  obtain ⟨w1, w2, w3, w4⟩ := hw0
  intro H locs ls hP hS hl
  intro T hT9 X9
  have hal := X9.warmed.alike
  have hcell : T.heap[a]? = some (vp_cell cA x) := by rw [hT9]; exact (hP.1 a _ hM).1
  have hcell2 : T.heap[b]? = some (vp_cell cB z) := by rw [hT9]; exact (hP.1 b _ hMb).1
  obtain ⟨hobj, kA, hkA, comp, hkind⟩ := (hK.2 t0 _ ht).1 x.1 (zvl x)
  obtain ⟨hobj2, kB, hkB, comp2, hkind2⟩ := (hK.2 t1 _ ht1).1 z.1 (zvl z)
  rw [← zvl_cell] at hobj hkA hobj2 hkB
  have hsize : (vp_cell cA x).slots.size = x.1 := by rw [zvl_cell, arrV_size]
  have hsize2 : (vp_cell cB z).slots.size = z.1 := by rw [zvl_cell, arrV_size]
  have ri : inR i := ⟨by omega, by omega⟩
  have rj : inR j := ⟨by omega, by omega⟩
  have rw9 : inR w := ⟨by omega, by omega⟩
  have nn : ∀ u : Int, inR u → 0 ≤ u → ¬ iI u < 0 ∧ (iI u).toNatClampNeg = u.toNat := fun u hu h => by
    refine ⟨fun h9 => ?_, ?_⟩
    · rw [Int32.lt_iff_toInt_lt, iI_toInt hu] at h9
      exact absurd h9 (by show ¬ u < 0; omega)
    · show (iI u).toInt.toNat = u.toNat
      rw [iI_toInt hu]
  obtain ⟨i1, i2⟩ := nn i ri h0
  obtain ⟨j1, j2⟩ := nn j rj h1
  obtain ⟨u1, u2⟩ := nn w rw9 h2
  have hkn : ∀ (c9 : ClassId) (y : vp_A), (vp_cell c9 y).vm ≠ .unknown := fun c9 y h => by rw [zvl_known] at h; cases h
  obtain ⟨vm', X', step⟩ := X9.arraycopy hx hown (hts _ w1) (hts _ w2) (hts _ w3) (hts _ w4) (src := a) (dst := b) (cs := vp_cell cA x) (cd := vp_cell cB z) (srcPos := iI i) (destPos := iI j) (n := iI w) hcell hcell2 hobj hobj2 (hkn _ _) (hkn _ _) hkA hkB hkind hkind2 hty i1 j1 u1
    (by rw [hsize, iI_toInt ri, iI_toInt rw9]; omega) (by rw [hsize2, iI_toInt rj, iI_toInt rw9]; omega)
    (fun vm₁ hal1 r hr => by
      rw [u2] at hr
      rw [i2]
      have e : (vp_cell cA x).slots.getD (i.toNat + r) .null = zvl x (i.toNat + r) := by
        rw [zvl_cell, Array.getD_eq_getD_getElem?, arrV_read _ _ (by omega)]
        rfl
      obtain ⟨g1, g2⟩ := hvals r (by omega)
      rw [e]
      refine ⟨g1, ?_⟩
      cases hv : zvl x (i.toNat + r) with
      | ref o =>
        obtain ⟨ci, N9, Cn, T9, fs, E, rfl, g4, g5, g6⟩ := g2 o hv
        obtain ⟨cy, k1, k2, k3⟩ := zrec_cell (zrec_P g4) g5 hU hP
        obtain ⟨kA2, cp2, f1, f2, f3, f4⟩ := (hK.2 t1 _ ht1).2
        have f5 : kA2 = kB := Option.some.inj (f1.symm.trans (by rw [← zvl_cls cB z]; exact hkB))
        subst f5
        have f6 : cp2 = comp2 := by rw [hkind2] at f2; injection f2 with f2 _; exact f2.symm
        subst f6
        have p3 : s.vm.assignable cy.cls cp2 = true := by
          rcases g6 with hce | hca
          · subst hce
            have hCA := (hK.1 ci _ g5).2
            have e1 := Option.some.inj (hCA.1.symm.trans k3)
            have e2 : cp2 = cy.cls := Option.some.inj (f3.symm.trans k3)
            rw [e2, ← e1]; exact va_assign hCA
          · obtain ⟨c3, c4, p1, p2, p3⟩ := Cond.castable_spec (va_Nw.use rfl (hT.cast hU hca) : (Cond.castable Cn E).before args s = true)
            cases Option.some.inj (p1.symm.trans k3)
            cases Option.some.inj (p2.symm.trans f3)
            exact p3
        obtain ⟨ky, l1, -⟩ := xcls k3
        obtain ⟨kc, l2, -⟩ := xcls f3
        obtain ⟨ky', l3, -⟩ := hal1.2.2 _ _ l1
        obtain ⟨kc', l4, -⟩ := hal1.2.2 _ _ l2
        exact ⟨cy, by show T.heap[o]? = _; rw [hT9]; exact k1, (fun q h => by rw [h] at k2; cases k2), ⟨ky', l3⟩, ⟨kc', l4⟩, by show vm₁.assignable _ _ = true; rw [hal1.assignable]; exact p3⟩
      | _ => trivial)
    (g := F0 m pc ls (.int (iI w) :: .int (iI j) :: .ref b :: .int (iI i) :: .ref a :: rest)) rfl hl.1 (rest := rest) rfl (by rw [hb]; exact d) hf (by show 2 * 0 + _ + _ ≤ _; have e2 : nativeFrameWords "java/lang/System" "arraycopy" 5 = 7 := (by decide +kernel); rw [e2]; omega)
  have e1 : copied (vp_cell cA x) (vp_cell cB z) (iI i) (iI j) (iI w) = vp_cell cB (zcp x z i.toNat j.toNat w.toNat) := by
    rw [zcp_cell cA cB _ _ _ hss (by omega)]
    show (vp_cell cB z).storeRun (iI j).toNatClampNeg ((vp_cell cA x).stretch (iI i).toNatClampNeg (iI w).toNatClampNeg) = _
    rw [i2, j2, u2]
  rw [e1] at X' step
  have hH : ((T.setVm vm').setCell b (vp_cell cB (zcp x z i.toNat j.toNat w.toNat))).heap[b]? = some (vp_cell cB (zcp x z i.toNat j.toNat w.toNat)) := heapAt_setCell_self _ (Array.getElem?_eq_some_iff.mp hcell2).1
  have hoq : ∀ q : Nat, q ≠ b → ((T.setVm vm').setCell b (vp_cell cB (zcp x z i.toNat j.toNat w.toNat))).heap[q]? = H[q]? := fun q hq => by rw [heapAt_setCell_ne _ (Ne.symm hq)]; exact congrArg (fun h : Heap => h[q]?) hT9
  have hsz9 : ((T.setVm vm').setCell b (vp_cell cB (zcp x z i.toNat j.toNat w.toNat))).heap.size = H.size := by rw [size_setCell]; exact congrArg Array.size hT9
  obtain ⟨g1, g2⟩ := zP.put hP hMb hH hoq
  obtain ⟨t, a1, b1⟩ := kk _ _ ls g1 ⟨by rw [hsz9]; exact hS.1, fun q p1 p2 => by rw [hoq q (fun h => p2 (by rw [h]; exact g2))]; exact hS.2.1 q p1 p2, fun q hq => by
    rcases List.mem_append.mp hq with h | h
    · exact hS.2.2 q h
    · obtain ⟨r, -, hr⟩ := List.mem_map.mp h
      rw [← hr]; exact g2⟩ hl _ rfl X'
  exact ⟨t, step t a1, b1⟩
theorem zn_len (C : ZC κ own nm cc nL ret rm P) (hκ : κ.1 = θ) (hκl : κ.2.2.1 = l) (q : Nat) (hM : M a = some (.inl (cA, x))) (ht : (zTys θ)[t0]? = some (cA, ty)) (m1 : x.1 ≤ 2147483647) (hw0 : zNc1 (⟨"java/lang/reflect/Array", "getLength", "(Ljava/lang/Object;)I"⟩ : MethodName) own index) (d : decode cc pc = .ok (.invokestatic index, 3)) (hf : 1 ≤ rm.frames) (hlo : 60 ≤ rm.locals) (hsz : (rest.map fun v => v.category).sum ≤ 8) (hq : pc + 3 = q) (kk : Z κ (zP θ M N) n k q lv (.int (iI (x.1 : Int)) :: rest)) : Z κ (zP θ M N) n k pc lv (.ref a :: rest) := by
  subst hq
  subst hκ; subst hκl
  obtain ⟨θ, p, l, e, R, s, m, args, below, meth, c, Q⟩ := κ
  obtain ⟨hx, hb, hml, hown, hts, hU, hlk, hret, hnm, rfl, hQ⟩ := C
  have hK := hU.2.2.2
  obtain ⟨w1, w2, w3, w4⟩ := hw0
  intro H locs ls hP hS hl
  refine zn_W hx (x := (⟨"java/lang/reflect/Array", "getLength", "(Ljava/lang/Object;)I"⟩ : MethodName)) (ps := [.object "java/lang/Object"]) (ret := some .int) (argsL := [.ref a]) (rest := rest) hb hl.1 hown (hts _ w1) (hts _ w2) (hts _ w3) (hts _ w4) (by decide +kernel) (by decide) rfl d (by omega) (by have e2 : nativeFrameWords "java/lang/reflect/Array" "getLength" 1 = 3 := (by decide +kernel); show (rest.map fun v => v.category).sum + (nativeFrameWords "java/lang/reflect/Array" "getLength" 1 + 11) ≤ _; rw [e2]; omega) (fun T hT9 X9 m9 k9 meth9 N9 hroom => ?_)
  have hal := X9.warmed.alike
  have hcell : T.heap[a]? = some (vp_cell cA x) := by rw [hT9]; exact (hP.1 a _ hM).1
  obtain ⟨hobj, kA, hkA, comp, hkind⟩ := arrOfT_moved hal (hK.2 t0 _ ht).1 x.1 (zvl x)
  rw [← zvl_cell] at hobj hkA
  have hkn : (vp_cell cA x).vm ≠ .unknown := by rw [zvl_known]; intro h; cases h
  have hsize : (vp_cell cA x).slots.size = x.1 := by rw [zvl_cell, arrV_size]
  obtain ⟨t, a1, b1⟩ := kk H locs ls hP hS hl T hT9 X9
  refine ⟨t, fun acts => ?_, b1⟩
  refine Steps.getLengthOf (g := F0 m pc ls rest) p X9.here acts N9 hroom hcell hobj hkA (by unfold Class.isArray; rw [hkind]) (by rw [hb]; exact d) ?_
  have e3 : (vp_cell cA x).slots.size.toInt32 = iI (x.1 : Int) := by rw [hsize]; exact zlen32 x.1
  rw [e3]
  exact a1
end ZNX
theorem zc_copy : zNc1 arraycopyName "ReflectMirror" 269 := ⟨q1691, q1693, q1692, q135⟩
theorem zc_len : zNc1 (⟨"java/lang/reflect/Array", "getLength", "(Ljava/lang/Object;)I"⟩ : MethodName) "ReflectMirror$Many" 13 := ⟨q1877, q1879, q1878, q131⟩
