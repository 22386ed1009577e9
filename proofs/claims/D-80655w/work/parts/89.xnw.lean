/-! ===== rows of the natives that write ===== -/
def zst (x : vp_A) (i : Nat) (v : Value) : vp_A := (x.1, match x.2, v with
  | .inl f, .int w => .inl (va_up f i w)
  | .inr (.inl f), .long w => .inr (.inl (va_up f i w))
  | .inr (.inr (.inl f)), .float w => .inr (.inr (.inl (va_up f i w)))
  | .inr (.inr (.inr (.inl f))), .double w => .inr (.inr (.inr (.inl (va_up f i w))))
  | .inr (.inr (.inr (.inr f))), .null => .inr (.inr (.inr (.inr (va_up f i none))))
  | .inr (.inr (.inr (.inr f))), .ref w => .inr (.inr (.inr (.inr (va_up f i (some w)))))
  | y, _ => y)
/-- of the sort of the row -/
def zvt (x : vp_A) (v : Value) : Prop := match x.2, v with
  | .inl _, .int _ | .inr (.inl _), .long _ | .inr (.inr (.inl _)), .float _ | .inr (.inr (.inr (.inl _))), .double _ | .inr (.inr (.inr (.inr _))), .null | .inr (.inr (.inr (.inr _))), .ref _ => True
  | _, _ => False
theorem zvl_up {α : Type} (mk : α → Value) (f : Nat → α) (i : Nat) (w : α) : (fun j => mk (va_up f i w j)) = updV (fun j => mk (f j)) i (mk w) := by
  funext j
  by_cases h : j = i
  · subst h; simp [updV, va_up]
  · simp [updV, va_up, h]
theorem zst_cell {x : vp_A} {v : Value} (cA : ClassId) (i : Nat) (h : zvt x v) : vp_cell cA (zst x i v) = (vp_cell cA x).setSlot i v := by
  obtain ⟨n, f | f | f | f | f⟩ := x <;> cases v <;> first
    | exact h.elim
    | exact (congrArg (arrV cA n) (zvl_up Value.int f i _)).trans (arrV_store cA n i _ _).symm
    | exact (congrArg (arrV cA n) (zvl_up Value.long f i _)).trans (arrV_store cA n i _ _).symm
    | exact (congrArg (arrV cA n) (zvl_up Value.float f i _)).trans (arrV_store cA n i _ _).symm
    | exact (congrArg (arrV cA n) (zvl_up Value.double f i _)).trans (arrV_store cA n i _ _).symm
    | exact (congrArg (arrV cA n) (zvl_up va_rf f i none)).trans (arrV_store cA n i _ _).symm
    | exact (congrArg (arrV cA n) (zvl_up va_rf f i (some _))).trans (arrV_store cA n i _ _).symm
def zcp (x y : vp_A) (sp dp n : Nat) : vp_A := (y.1, match x.2, y.2 with
  | .inl f, .inl g => .inl (va_cpy f g sp dp n)
  | .inr (.inl f), .inr (.inl g) => .inr (.inl (va_cpy f g sp dp n))
  | .inr (.inr (.inl f)), .inr (.inr (.inl g)) => .inr (.inr (.inl (va_cpy f g sp dp n)))
  | .inr (.inr (.inr (.inl f))), .inr (.inr (.inr (.inl g))) => .inr (.inr (.inr (.inl (va_cpy f g sp dp n))))
  | .inr (.inr (.inr (.inr f))), .inr (.inr (.inr (.inr g))) => .inr (.inr (.inr (.inr (va_cpy f g sp dp n))))
  | _, z => z)
def zss (x y : vp_A) : Prop := match x.2, y.2 with
  | .inl _, .inl _ | .inr (.inl _), .inr (.inl _) | .inr (.inr (.inl _)), .inr (.inr (.inl _)) | .inr (.inr (.inr (.inl _))), .inr (.inr (.inr (.inl _))) | .inr (.inr (.inr (.inr _))), .inr (.inr (.inr (.inr _))) => True
  | _, _ => False
theorem zcp_cell {x y : vp_A} (cA cB : ClassId) (sp dp n : Nat) (h : zss x y) (hs : sp + n ≤ x.1) : vp_cell cB (zcp x y sp dp n) = (vp_cell cB y).storeRun dp ((vp_cell cA x).stretch sp n) := by
  obtain ⟨n0, f | f | f | f | f⟩ := x <;> obtain ⟨n1, g | g | g | g | g⟩ := y <;> first
    | exact h.elim
    | exact (va_copied Value.int cA cB f g hs).symm
    | exact (va_copied Value.long cA cB f g hs).symm
    | exact (va_copied Value.float cA cB f g hs).symm
    | exact (va_copied Value.double cA cB f g hs).symm
    | exact (va_copied va_rf cA cB f g hs).symm
theorem zfit {s : State} {cA : ClassId} {x : vp_A} {i : Nat} {v : Value} {k : Class} {comp : ClassId} {ty : FieldType} (hk : s.vm.classes[cA]? = some k) (hkind : k.kind = .array comp ty) (hf : fits ty v = true) : s.fitsSlot (vp_cell cA x).cls (vp_cell cA x).vm i v = true := by
  have e1 : (vp_cell cA x).cls = cA := by rw [zvl_cell]; rfl
  rw [zvl_known, e1]
  unfold State.fitsSlot State.slotType?
  simp [hk, hkind, hf]
theorem zvl_cls (cA : ClassId) (x : vp_A) : (vp_cell cA x).cls = cA := by rw [zvl_cell]; rfl
theorem zP.put {θ : zTh} {M N : zMap} {H H1 : Heap} {a : Nat} {cA : ClassId} {x x' : vp_A} (hP : zP θ M N H) (hM : M a = some (.inl (cA, x))) (h1 : H1[a]? = some (vp_cell cA x')) (h2 : ∀ q : Nat, q ≠ a → H1[q]? = H[q]?) : zP θ (zup M a (.inl (cA, x'))) N H1 ∧ zA θ a := by
  obtain ⟨ws, v1, v2, v3⟩ := hP.ws
  obtain ⟨q0, hq0⟩ := v3.2.1 a _ hM
  exact ⟨zL.set hP v2 v3 hM hq0 (v1.set v2 hq0 (show va_at θ.1 zCl (a, .inl (cA, x')) H1 from h1) h2), v2.2 q0 _ hq0⟩

section ZNV
variable {κ : zK} {own nm : String} {cc : ByteArray} {nL : Nat} {ret : Option FieldType} {rm : Room} {P : Option Value → (Heap → Prop) → Prop} {n k pc index t0 t1 : Nat} {lv : List (Nat × Value)} {st rest : List Value}
variable {θ : zTh} {l : Launch} {M N : zMap} {a b : Nat} {x z : vp_A} {cA cB : ClassId} {ty ty1 X : FieldType} {y : MethodName} {name letter rule E : String} {i : Int} {v v' : Value}
theorem zn_setOk (C : ZC κ own nm cc nL ret rm P) (hκ : κ.1 = θ) (hκl : κ.2.2.1 = l) (q : Nat) (hsn : ∀ m9 : Method, m9.isStatic = true → m9.sig.parameters = [.object "java/lang/Object", .int, X] → seenByNative m9 #[.ref a, .int (iI i), v] = #[.ref a, .int (iI i), v]) (hM : M a = some (.inl (cA, x))) (ht : (zTys θ)[t0]? = some (cA, ty)) (hr : Native.java_lang_reflect_Array.elements.isReference ty = false) (h0 : 0 ≤ i) (h1 : i < (x.1 : Int)) (h2 : x.1 ≤ 2147483647) (hw : Native.java_lang_reflect_Array.elements.widen X ty v = some v') (ha : afterWidening X ty v' = Sem.pure v') (hft : fits ty (narrow ty v') = true) (hvt : zvt x (narrow ty v')) (hy : zNs y name letter rule X (v.category)) (hw0 : zNc1 y own index) (d : decode cc pc = .ok (.invokestatic index, 3)) (hf : 1 ≤ rm.frames) (hlo : 60 ≤ rm.locals) (hsz : (rest.map fun v => v.category).sum ≤ 8) (hq : pc + 3 = q) (kk : Z κ (zP θ (zup M a (.inl (cA, zst x i.toNat (narrow ty v')))) N) n k q lv rest) : Z κ (zP θ M N) n k pc lv (v :: .int (iI i) :: .ref a :: rest) := by
  subst hq
  subst hκ; subst hκl
  obtain ⟨θ, p, l, e, R, s, m, args, below, meth, c, Q⟩ := κ
  obtain ⟨hx, hb, hml, hown, hts, hU, hlk, hret, hnm, rfl, hQ⟩ := C
  have hK := hU.2.2.2
  obtain ⟨y1, y2, y3, y4⟩ := hy
  obtain ⟨w1, w2, w3, w4⟩ := hw0
  intro H locs ls hP hS hl
  refine zn_W hx (ps := [.object "java/lang/Object", .int, X]) (argsL := [.ref a, .int (iI i), v]) (rest := rest) hb hl.1 hown (hts _ w1) (hts _ w2) (hts _ w3) (hts _ w4) y2 ⟨by rw [y1]; decide, by rw [y1]; decide⟩ rfl d (by omega) (by have hcat : operandWords [.ref a, .int (iI i), v] = 2 + (v).category := zcat3 _ _ v; show (rest.map fun v => v.category).sum + (nativeFrameWords y.cls y.name (operandWords [.ref a, .int (iI i), v]) + 11) ≤ _; rw [hcat]; omega) (fun T hT9 X9 m9 k9 meth9 N9 hroom => ?_)
  have hal := X9.warmed.alike
  have hcell : T.heap[a]? = some (vp_cell cA x) := by rw [hT9]; exact (hP.1 a _ hM).1
  obtain ⟨hobj, kA, hkA, comp, hkind⟩ := arrOfT_moved hal (hK.2 t0 _ ht).1 x.1 (zvl x)
  rw [← zvl_cell] at hobj hkA
  have hkn : (vp_cell cA x).vm ≠ .unknown := by rw [zvl_known]; intro h; cases h
  have hsize : (vp_cell cA x).slots.size = x.1 := by rw [zvl_cell, arrV_size]
  obtain ⟨i1, i2⟩ := zin_of h0 h1 h2
  have i3 : ¬ iI i < 0 := fun h => i1 (Or.inl h)
  have i4 : (iI i).toNatClampNeg < (vp_cell cA x).slots.size := by rw [hsize]; exact Nat.lt_of_not_le (fun h => i1 (Or.inr h))
  have hv0 : (vp_cell cA x).slots[(iI i).toNatClampNeg]? = some (zvl x i.toNat) := by rw [zvl_cell, i2]; exact arrV_read cA (zvl x) (by omega)
  have hseen := hsn meth9 N9.static N9.sig
  have hH : ((T.setCell a ((vp_cell cA x).setSlot (iI i).toNatClampNeg (narrow ty v'))).heap[a]? = some (vp_cell cA (zst x i.toNat (narrow ty v')))) := by
    rw [zst_cell cA i.toNat hvt, i2]
    exact heapAt_setCell_self _ (Array.getElem?_eq_some_iff.mp hcell).1
  have hoq : ∀ q : Nat, q ≠ a → (T.setCell a ((vp_cell cA x).setSlot (iI i).toNatClampNeg (narrow ty v'))).heap[q]? = H[q]? := fun q hq => by rw [heapAt_setCell_ne _ (Ne.symm hq), hT9]
  have hsz9 : (T.setCell a ((vp_cell cA x).setSlot (iI i).toNatClampNeg (narrow ty v'))).heap.size = H.size := by rw [size_setCell, hT9]
  obtain ⟨g1, g2⟩ := zP.put hP hM hH hoq
  obtain ⟨t, a1, b1⟩ := kk (T.setCell a ((vp_cell cA x).setSlot (iI i).toNatClampNeg (narrow ty v'))).heap (locs ++ [⟨a, (iI i).toNatClampNeg⟩]) ls g1 (hS.put hsz9 hoq g2) hl (T.setCell a ((vp_cell cA x).setSlot (iI i).toNatClampNeg (narrow ty v'))) rfl (X9.stored hcell _ _)
  refine ⟨t, fun acts => ?_, b1⟩
  refine Steps.nativeEnds (row := Native.java_lang_reflect_Array.elements.setX name letter rule X) (v := none) (T := fun u => u.setCell a ((vp_cell cA x).setSlot (iI i).toNatClampNeg (narrow ty v'))) (g := F0 m pc ls rest) X9.here acts N9.cls N9.meth N9.boot N9.native N9.noCode N9.noLock (by rw [N9.className, N9.name, N9.desc]; exact y3 p) (by rw [N9.className, N9.name]; exact hroom) (fun _ => rfl) rfl (fun _ => X9.here.code) ?_ (by rw [hb]; exact d) a1
  intro Q9 hq
  rw [hseen] at hq ⊢
  exact zw_setOk hcell hobj hkA hkind hkn hr i3 i4 hw ha (zfit (by rw [← zvl_cls cA x]; exact hkA) hkind hft) (fun d' acts' => hq d' acts')
theorem zn_stNull (C : ZC κ own nm cc nL ret rm P) (hκ : κ.1 = θ) (hκl : κ.2.2.1 = l) (hT : zTb θ) (q : Nat) (hM : M a = some (.inl (cA, x))) (ht : (zTys θ)[t0]? = some (cA, .object E)) (hvt : zvt x (.null)) (h0 : 0 ≤ i) (h1 : i < (x.1 : Int)) (h2 : x.1 ≤ 2147483647) (hw0 : zNc1 (⟨"java/lang/reflect/Array", "set", "(Ljava/lang/Object;ILjava/lang/Object;)V"⟩ : MethodName) own index) (d : decode cc pc = .ok (.invokestatic index, 3)) (hf : 1 ≤ rm.frames) (hlo : 60 ≤ rm.locals) (hsz : (rest.map fun v => v.category).sum ≤ 8) (hq : pc + 3 = q) (kk : Z κ (zP θ (zup M a (.inl (cA, zst x i.toNat (.null)))) N) n k q lv rest) : Z κ (zP θ M N) n k pc lv (.null :: .int (iI i) :: .ref a :: rest) := by
  subst hq
  subst hκ; subst hκl
  obtain ⟨θ, p, l, e, R, s, m, args, below, meth, c, Q⟩ := κ
  obtain ⟨hx, hb, hml, hown, hts, hU, hlk, hret, hnm, rfl, hQ⟩ := C
  have hK := hU.2.2.2
  obtain ⟨w1, w2, w3, w4⟩ := hw0
  intro H locs ls hP hS hl
  refine zn_W hx (x := (⟨"java/lang/reflect/Array", "set", "(Ljava/lang/Object;ILjava/lang/Object;)V"⟩ : MethodName)) (ps := [.object "java/lang/Object", .int, .object "java/lang/Object"]) (ret := none) (argsL := [.ref a, .int (iI i), .null]) (rest := rest) hb hl.1 hown (hts _ w1) (hts _ w2) (hts _ w3) (hts _ w4) (by decide +kernel) (by decide) rfl d (by omega) (by have e1 : operandWords [.ref a, .int (iI i), .null] = 3 := rfl; have e2 : nativeFrameWords "java/lang/reflect/Array" "set" 3 = 5 := (by decide +kernel); show (rest.map fun v => v.category).sum + (nativeFrameWords "java/lang/reflect/Array" "set" (operandWords [.ref a, .int (iI i), .null]) + 11) ≤ _; rw [e1, e2]; omega) (fun T hT9 X9 m9 k9 meth9 N9 hroom => ?_)
  have hal := X9.warmed.alike
  have hcell : T.heap[a]? = some (vp_cell cA x) := by rw [hT9]; exact (hP.1 a _ hM).1
  obtain ⟨hobj, kA, hkA, comp, hkind⟩ := arrOfT_moved hal (hK.2 t0 _ ht).1 x.1 (zvl x)
  rw [← zvl_cell] at hobj hkA
  have hkn : (vp_cell cA x).vm ≠ .unknown := by rw [zvl_known]; intro h; cases h
  have hsize : (vp_cell cA x).slots.size = x.1 := by rw [zvl_cell, arrV_size]
  obtain ⟨i1, i2⟩ := zin_of h0 h1 h2
  have i3 : ¬ iI i < 0 := fun h => i1 (Or.inl h)
  have i4 : (iI i).toNatClampNeg < (vp_cell cA x).slots.size := by rw [hsize]; exact Nat.lt_of_not_le (fun h => i1 (Or.inr h))
  have hv0 : (vp_cell cA x).slots[(iI i).toNatClampNeg]? = some (zvl x i.toNat) := by rw [zvl_cell, i2]; exact arrV_read cA (zvl x) (by omega)
  have hseen : seenByNative meth9 #[.ref a, .int (iI i), .null] = #[.ref a, .int (iI i), .null] := by simp [seenByNative, N9.static, N9.sig, narrow]
  have hH : ((T.setCell a ((vp_cell cA x).setSlot (iI i).toNatClampNeg (.null))).heap[a]? = some (vp_cell cA (zst x i.toNat (.null)))) := by
    rw [zst_cell cA i.toNat hvt, i2]
    exact heapAt_setCell_self _ (Array.getElem?_eq_some_iff.mp hcell).1
  have hoq : ∀ q : Nat, q ≠ a → (T.setCell a ((vp_cell cA x).setSlot (iI i).toNatClampNeg (.null))).heap[q]? = H[q]? := fun q hq => by rw [heapAt_setCell_ne _ (Ne.symm hq), hT9]
  have hsz9 : (T.setCell a ((vp_cell cA x).setSlot (iI i).toNatClampNeg (.null))).heap.size = H.size := by rw [size_setCell, hT9]
  obtain ⟨g1, g2⟩ := zP.put hP hM hH hoq
  obtain ⟨t, a1, b1⟩ := kk (T.setCell a ((vp_cell cA x).setSlot (iI i).toNatClampNeg (.null))).heap (locs ++ [⟨a, (iI i).toNatClampNeg⟩]) ls g1 (hS.put hsz9 hoq g2) hl (T.setCell a ((vp_cell cA x).setSlot (iI i).toNatClampNeg (.null))) rfl (X9.stored hcell _ _)
  refine ⟨t, fun acts => ?_, b1⟩
  refine Steps.nativeEnds (row := Native.java_lang_reflect_Array.elements.set) (v := none) (T := fun u => u.setCell a ((vp_cell cA x).setSlot (iI i).toNatClampNeg (.null))) (g := F0 m pc ls rest) X9.here acts N9.cls N9.meth N9.boot N9.native N9.noCode N9.noLock (by rw [N9.className, N9.name, N9.desc]; exact zr_set p) (by rw [N9.className, N9.name]; exact hroom) (fun _ => rfl) rfl (fun _ => X9.here.code) ?_ (by rw [hb]; exact d) a1
  intro Q9 hq
  rw [hseen] at hq ⊢
  exact zw_stNull hcell hobj hkA hkind hkn (show Native.java_lang_reflect_Array.elements.isReference (.object E) = true from rfl) i3 i4 (zfit (by rw [← zvl_cls cA x]; exact hkA) hkind rfl) (fun d' acts' => hq d' acts')
theorem zn_stOk (C : ZC κ own nm cc nL ret rm P) (hκ : κ.1 = θ) (hκl : κ.2.2.1 = l) (hT : zTb θ) (q : Nat) {ci N9 : Nat} {Cn : String} {T9 : u_T} {fs : List Value} (hb9 : M b = some (.inr (ci, fs))) (hc9 : zCl[ci]? = some (Cn, T9, N9)) (hca : Cn = E ∨ Cond.castable Cn E ∈ lw_tbl) (hM : M a = some (.inl (cA, x))) (ht : (zTys θ)[t0]? = some (cA, .object E)) (hvt : zvt x (.ref b)) (h0 : 0 ≤ i) (h1 : i < (x.1 : Int)) (h2 : x.1 ≤ 2147483647) (hw0 : zNc1 (⟨"java/lang/reflect/Array", "set", "(Ljava/lang/Object;ILjava/lang/Object;)V"⟩ : MethodName) own index) (d : decode cc pc = .ok (.invokestatic index, 3)) (hf : 1 ≤ rm.frames) (hlo : 60 ≤ rm.locals) (hsz : (rest.map fun v => v.category).sum ≤ 8) (hq : pc + 3 = q) (kk : Z κ (zP θ (zup M a (.inl (cA, zst x i.toNat (.ref b)))) N) n k q lv rest) : Z κ (zP θ M N) n k pc lv (.ref b :: .int (iI i) :: .ref a :: rest) := by
  subst hq
  subst hκ; subst hκl
  obtain ⟨θ, p, l, e, R, s, m, args, below, meth, c, Q⟩ := κ
  obtain ⟨hx, hb, hml, hown, hts, hU, hlk, hret, hnm, rfl, hQ⟩ := C
  have hK := hU.2.2.2
  obtain ⟨w1, w2, w3, w4⟩ := hw0
  intro H locs ls hP hS hl
  refine zn_W hx (x := (⟨"java/lang/reflect/Array", "set", "(Ljava/lang/Object;ILjava/lang/Object;)V"⟩ : MethodName)) (ps := [.object "java/lang/Object", .int, .object "java/lang/Object"]) (ret := none) (argsL := [.ref a, .int (iI i), .ref b]) (rest := rest) hb hl.1 hown (hts _ w1) (hts _ w2) (hts _ w3) (hts _ w4) (by decide +kernel) (by decide) rfl d (by omega) (by have e1 : operandWords [.ref a, .int (iI i), .ref b] = 3 := rfl; have e2 : nativeFrameWords "java/lang/reflect/Array" "set" 3 = 5 := (by decide +kernel); show (rest.map fun v => v.category).sum + (nativeFrameWords "java/lang/reflect/Array" "set" (operandWords [.ref a, .int (iI i), .ref b]) + 11) ≤ _; rw [e1, e2]; omega) (fun T hT9 X9 m9 k9 meth9 N9 hroom => ?_)
  have hal := X9.warmed.alike
  have hcell : T.heap[a]? = some (vp_cell cA x) := by rw [hT9]; exact (hP.1 a _ hM).1
  obtain ⟨hobj, kA, hkA, comp, hkind⟩ := arrOfT_moved hal (hK.2 t0 _ ht).1 x.1 (zvl x)
  rw [← zvl_cell] at hobj hkA
  have hkn : (vp_cell cA x).vm ≠ .unknown := by rw [zvl_known]; intro h; cases h
  have hsize : (vp_cell cA x).slots.size = x.1 := by rw [zvl_cell, arrV_size]
  obtain ⟨i1, i2⟩ := zin_of h0 h1 h2
  have i3 : ¬ iI i < 0 := fun h => i1 (Or.inl h)
  have i4 : (iI i).toNatClampNeg < (vp_cell cA x).slots.size := by rw [hsize]; exact Nat.lt_of_not_le (fun h => i1 (Or.inr h))
  have hv0 : (vp_cell cA x).slots[(iI i).toNatClampNeg]? = some (zvl x i.toNat) := by rw [zvl_cell, i2]; exact arrV_read cA (zvl x) (by omega)
  obtain ⟨cy, j1, j2, j3⟩ := zrec_cell (zrec_P hb9) hc9 hU hP
  obtain ⟨kA2, comp2, k1, k2, k3, k4⟩ := va_RA.moved hal (hK.2 t0 _ ht).2
  have k5 : kA2 = kA := Option.some.inj (k1.symm.trans (by rw [← zvl_cls cA x]; exact hkA))
  subst k5
  have k6 : comp2 = comp := by rw [hkind] at k2; injection k2 with k2 _; exact k2.symm
  subst k6
  have j4 : T.heap[b]? = some cy := by rw [hT9]; exact j1
  have j5 : ∀ k, cy.vm ≠ .statics k := fun k h => by rw [h] at j2; cases j2
  obtain ⟨ky, j6, -⟩ := xcls (show T.vm.findClass Cn = some cy.cls by rw [hal.findClass]; exact j3)
  obtain ⟨kc, j7, -⟩ := xcls k3
  have j8 : T.vm.assignable cy.cls comp2 = true := by
    rw [hal.assignable]
    have k3' : s.vm.findClass E = some comp2 := by rw [← hal.findClass]; exact k3
    rcases hca with hce | hca
    · subst hce
      have hCA := (hK.1 ci _ hc9).2
      have e1 := Option.some.inj (hCA.1.symm.trans j3)
      have e2 : comp2 = cy.cls := Option.some.inj (k3'.symm.trans j3)
      rw [e2, ← e1]; exact va_assign hCA
    · obtain ⟨c3, c4, q1, q2, q3⟩ := Cond.castable_spec (va_Nw.use rfl (hT.cast hU hca) : (Cond.castable Cn E).before args s = true)
      cases Option.some.inj (q1.symm.trans j3)
      cases Option.some.inj (q2.symm.trans k3')
      exact q3
  have hseen : seenByNative meth9 #[.ref a, .int (iI i), .ref b] = #[.ref a, .int (iI i), .ref b] := by simp [seenByNative, N9.static, N9.sig, narrow]
  have hH : ((T.setCell a ((vp_cell cA x).setSlot (iI i).toNatClampNeg (.ref b))).heap[a]? = some (vp_cell cA (zst x i.toNat (.ref b)))) := by
    rw [zst_cell cA i.toNat hvt, i2]
    exact heapAt_setCell_self _ (Array.getElem?_eq_some_iff.mp hcell).1
  have hoq : ∀ q : Nat, q ≠ a → (T.setCell a ((vp_cell cA x).setSlot (iI i).toNatClampNeg (.ref b))).heap[q]? = H[q]? := fun q hq => by rw [heapAt_setCell_ne _ (Ne.symm hq), hT9]
  have hsz9 : (T.setCell a ((vp_cell cA x).setSlot (iI i).toNatClampNeg (.ref b))).heap.size = H.size := by rw [size_setCell, hT9]
  obtain ⟨g1, g2⟩ := zP.put hP hM hH hoq
  obtain ⟨t, a1, b1⟩ := kk (T.setCell a ((vp_cell cA x).setSlot (iI i).toNatClampNeg (.ref b))).heap (locs ++ [⟨a, (iI i).toNatClampNeg⟩]) ls g1 (hS.put hsz9 hoq g2) hl (T.setCell a ((vp_cell cA x).setSlot (iI i).toNatClampNeg (.ref b))) rfl (X9.stored hcell _ _)
  refine ⟨t, fun acts => ?_, b1⟩
  refine Steps.nativeEnds (row := Native.java_lang_reflect_Array.elements.set) (v := none) (T := fun u => u.setCell a ((vp_cell cA x).setSlot (iI i).toNatClampNeg (.ref b))) (g := F0 m pc ls rest) X9.here acts N9.cls N9.meth N9.boot N9.native N9.noCode N9.noLock (by rw [N9.className, N9.name, N9.desc]; exact zr_set p) (by rw [N9.className, N9.name]; exact hroom) (fun _ => rfl) rfl (fun _ => X9.here.code) ?_ (by rw [hb]; exact d) a1
  intro Q9 hq
  rw [hseen] at hq ⊢
  exact zw_stOk hcell hobj hkA hkind hkn (show Native.java_lang_reflect_Array.elements.isReference (.object E) = true from rfl) i3 i4 j4 j5 j6 j7 j8 (zfit (by rw [← zvl_cls cA x]; exact hkA) hkind rfl) (fun d' acts' => hq d' acts')
theorem zn_stOutN (C : ZC κ own nm cc nL ret rm P) (hκ : κ.1 = θ) (hκl : κ.2.2.1 = l) (hT : zTb θ) (hZ : zTx θ l) (hM : M a = some (.inl (cA, x))) (ht : (zTys θ)[t0]? = some (cA, .object E)) (hi : inR i) (hout : i < 0 ∨ (x.1 : Int) ≤ i) (hw0 : zNc1 (⟨"java/lang/reflect/Array", "set", "(Ljava/lang/Object;ILjava/lang/Object;)V"⟩ : MethodName) own index) (d : decode cc pc = .ok (.invokestatic index, 3)) (hf : 9 ≤ rm.frames) (hlo : 10250 ≤ rm.locals) (hsz : (rest.map fun v => v.category).sum ≤ 8) (hce : n + 1 ≤ rm.cells) (hsl : k + 6 ≤ rm.slots) (kx : ∀ b : Nat, zX κ (zP θ M N) (n + 1) (k + 6) pc lv b "java/lang/ArrayIndexOutOfBoundsException") : Z κ (zP θ M N) n k pc lv (.null :: .int (iI i) :: .ref a :: rest) := by
  subst hκ; subst hκl
  obtain ⟨θ, p, l, e, R, s, m, args, below, meth, c, Q⟩ := κ
  obtain ⟨hx, hb, hml, hown, hts, hU, hlk, hret, hnm, rfl, hQ⟩ := C
  have hK := hU.2.2.2
  obtain ⟨w1, w2, w3, w4⟩ := hw0
  intro H locs ls hP hS hl
  refine zn_W hx (x := (⟨"java/lang/reflect/Array", "set", "(Ljava/lang/Object;ILjava/lang/Object;)V"⟩ : MethodName)) (ps := [.object "java/lang/Object", .int, .object "java/lang/Object"]) (ret := none) (argsL := [.ref a, .int (iI i), .null]) (rest := rest) hb hl.1 hown (hts _ w1) (hts _ w2) (hts _ w3) (hts _ w4) (by decide +kernel) (by decide) rfl d (by omega) (by have e1 : operandWords [.ref a, .int (iI i), .null] = 3 := rfl; have e2 : nativeFrameWords "java/lang/reflect/Array" "set" 3 = 5 := (by decide +kernel); show (rest.map fun v => v.category).sum + (nativeFrameWords "java/lang/reflect/Array" "set" (operandWords [.ref a, .int (iI i), .null]) + 11) ≤ _; rw [e1, e2]; omega) (fun T hT9 X9 m9 k9 meth9 N9 hroom => ?_)
  have hal := X9.warmed.alike
  have hcell : T.heap[a]? = some (vp_cell cA x) := by rw [hT9]; exact (hP.1 a _ hM).1
  obtain ⟨hobj, kA, hkA, comp, hkind⟩ := arrOfT_moved hal (hK.2 t0 _ ht).1 x.1 (zvl x)
  rw [← zvl_cell] at hobj hkA
  have hkn : (vp_cell cA x).vm ≠ .unknown := by rw [zvl_known]; intro h; cases h
  have hsize : (vp_cell cA x).slots.size = x.1 := by rw [zvl_cell, arrV_size]
  have hout' : iI i < 0 ∨ (vp_cell cA x).slots.size ≤ (iI i).toNatClampNeg := by rw [hsize]; exact Classical.byContradiction fun hc => by have h8 : vp_in (iI i) x.1 := hc; rw [vp_in_iff, iI_toInt hi] at h8; omega
  have hseen : seenByNative meth9 #[.ref a, .int (iI i), .null] = #[.ref a, .int (iI i), .null] := by simp [seenByNative, N9.static, N9.sig, narrow]
  obtain ⟨t, a1, b1⟩ := (show zo_Note p l e R s m args below meth c H locs n k Q (F0 m pc ls rest) "java/lang/ArrayIndexOutOfBoundsException" none from zo_z0 (names := ["java/lang/IndexOutOfBoundsException", "java/lang/RuntimeException", "java/lang/Exception"]) hx hts hU hlk hT hZ (by decide +kernel) (by decide +kernel) (by decide +kernel) (by decide +kernel) xat_A0 q126 hP hS hl (by simp only [List.length_cons, List.length_nil]; omega) hlo (by omega) (by decide) hce hsl kx) T hT9 X9 { method := m9, args := seenByNative meth9 #[.ref a, .int (iI i), .null], locked := none } rfl rfl rfl
  refine ⟨t, fun acts => ?_, b1⟩
  refine zn_throws (row := Native.java_lang_reflect_Array.elements.set) (g := F0 m pc ls rest) X9.here acts N9.cls N9.meth N9.boot N9.native N9.noCode N9.noLock (by rw [N9.className, N9.name, N9.desc]; exact zr_set p) (by rw [N9.className, N9.name]; exact hroom) (fun E9 hq => ?_) a1
  rw [hseen] at hq ⊢
  exact zw_stOutN hcell hobj hkA hkind (show Native.java_lang_reflect_Array.elements.isReference (.object E) = true from rfl) hout' (fun acts' => hq acts')
theorem zn_stOut (C : ZC κ own nm cc nL ret rm P) (hκ : κ.1 = θ) (hκl : κ.2.2.1 = l) (hT : zTb θ) (hZ : zTx θ l) (hM : M a = some (.inl (cA, x))) (ht : (zTys θ)[t0]? = some (cA, .object E)) (hi : inR i) (hout : i < 0 ∨ (x.1 : Int) ≤ i) (hw0 : zNc1 (⟨"java/lang/reflect/Array", "set", "(Ljava/lang/Object;ILjava/lang/Object;)V"⟩ : MethodName) own index) (d : decode cc pc = .ok (.invokestatic index, 3)) (hf : 9 ≤ rm.frames) (hlo : 10250 ≤ rm.locals) (hsz : (rest.map fun v => v.category).sum ≤ 8) (hce : n + 1 ≤ rm.cells) (hsl : k + 6 ≤ rm.slots) (kx : ∀ b : Nat, zX κ (zP θ M N) (n + 1) (k + 6) pc lv b "java/lang/ArrayIndexOutOfBoundsException") : Z κ (zP θ M N) n k pc lv (.ref b :: .int (iI i) :: .ref a :: rest) := by
  subst hκ; subst hκl
  obtain ⟨θ, p, l, e, R, s, m, args, below, meth, c, Q⟩ := κ
  obtain ⟨hx, hb, hml, hown, hts, hU, hlk, hret, hnm, rfl, hQ⟩ := C
  have hK := hU.2.2.2
  obtain ⟨w1, w2, w3, w4⟩ := hw0
  intro H locs ls hP hS hl
  refine zn_W hx (x := (⟨"java/lang/reflect/Array", "set", "(Ljava/lang/Object;ILjava/lang/Object;)V"⟩ : MethodName)) (ps := [.object "java/lang/Object", .int, .object "java/lang/Object"]) (ret := none) (argsL := [.ref a, .int (iI i), .ref b]) (rest := rest) hb hl.1 hown (hts _ w1) (hts _ w2) (hts _ w3) (hts _ w4) (by decide +kernel) (by decide) rfl d (by omega) (by have e1 : operandWords [.ref a, .int (iI i), .ref b] = 3 := rfl; have e2 : nativeFrameWords "java/lang/reflect/Array" "set" 3 = 5 := (by decide +kernel); show (rest.map fun v => v.category).sum + (nativeFrameWords "java/lang/reflect/Array" "set" (operandWords [.ref a, .int (iI i), .ref b]) + 11) ≤ _; rw [e1, e2]; omega) (fun T hT9 X9 m9 k9 meth9 N9 hroom => ?_)
  have hal := X9.warmed.alike
  have hcell : T.heap[a]? = some (vp_cell cA x) := by rw [hT9]; exact (hP.1 a _ hM).1
  obtain ⟨hobj, kA, hkA, comp, hkind⟩ := arrOfT_moved hal (hK.2 t0 _ ht).1 x.1 (zvl x)
  rw [← zvl_cell] at hobj hkA
  have hkn : (vp_cell cA x).vm ≠ .unknown := by rw [zvl_known]; intro h; cases h
  have hsize : (vp_cell cA x).slots.size = x.1 := by rw [zvl_cell, arrV_size]
  have hout' : iI i < 0 ∨ (vp_cell cA x).slots.size ≤ (iI i).toNatClampNeg := by rw [hsize]; exact Classical.byContradiction fun hc => by have h8 : vp_in (iI i) x.1 := hc; rw [vp_in_iff, iI_toInt hi] at h8; omega
  have hseen : seenByNative meth9 #[.ref a, .int (iI i), .ref b] = #[.ref a, .int (iI i), .ref b] := by simp [seenByNative, N9.static, N9.sig, narrow]
  obtain ⟨t, a1, b1⟩ := (show zo_Note p l e R s m args below meth c H locs n k Q (F0 m pc ls rest) "java/lang/ArrayIndexOutOfBoundsException" none from zo_z0 (names := ["java/lang/IndexOutOfBoundsException", "java/lang/RuntimeException", "java/lang/Exception"]) hx hts hU hlk hT hZ (by decide +kernel) (by decide +kernel) (by decide +kernel) (by decide +kernel) xat_A0 q126 hP hS hl (by simp only [List.length_cons, List.length_nil]; omega) hlo (by omega) (by decide) hce hsl kx) T hT9 X9 { method := m9, args := seenByNative meth9 #[.ref a, .int (iI i), .ref b], locked := none } rfl rfl rfl
  refine ⟨t, fun acts => ?_, b1⟩
  refine zn_throws (row := Native.java_lang_reflect_Array.elements.set) (g := F0 m pc ls rest) X9.here acts N9.cls N9.meth N9.boot N9.native N9.noCode N9.noLock (by rw [N9.className, N9.name, N9.desc]; exact zr_set p) (by rw [N9.className, N9.name]; exact hroom) (fun E9 hq => ?_) a1
  rw [hseen] at hq ⊢
  exact zw_stOut hcell hobj hkA hkind (show Native.java_lang_reflect_Array.elements.isReference (.object E) = true from rfl) hout' (fun acts' => hq acts')
theorem zn_stMis (C : ZC κ own nm cc nL ret rm P) (hκ : κ.1 = θ) (hκl : κ.2.2.1 = l) (hT : zTb θ) (hZ : zTx θ l) {ci N9 : Nat} {Cn : String} {T9 : u_T} {fs : List Value} (hb9 : M b = some (.inr (ci, fs))) (hc9 : zCl[ci]? = some (Cn, T9, N9)) (hno : (Cn, E) ∈ zNc) (hM : M a = some (.inl (cA, x))) (ht : (zTys θ)[t0]? = some (cA, .object E)) (h0 : 0 ≤ i) (h1 : i < (x.1 : Int)) (h2 : x.1 ≤ 2147483647) (hw0 : zNc1 (⟨"java/lang/reflect/Array", "set", "(Ljava/lang/Object;ILjava/lang/Object;)V"⟩ : MethodName) own index) (d : decode cc pc = .ok (.invokestatic index, 3)) (hf : 9 ≤ rm.frames) (hlo : 10250 ≤ rm.locals) (hsz : (rest.map fun v => v.category).sum ≤ 8) (hce : n + 3 ≤ rm.cells) (hsl : k + 140 ≤ rm.slots) (kx : ∀ b : Nat, zX κ (zP θ M N) (n + 3) (k + 140) pc lv b "java/lang/IllegalArgumentException") : Z κ (zP θ M N) n k pc lv (.ref b :: .int (iI i) :: .ref a :: rest) := by
  subst hκ; subst hκl
  obtain ⟨θ, p, l, e, R, s, m, args, below, meth, c, Q⟩ := κ
  obtain ⟨hx, hb, hml, hown, hts, hU, hlk, hret, hnm, rfl, hQ⟩ := C
  have hK := hU.2.2.2
  obtain ⟨w1, w2, w3, w4⟩ := hw0
  intro H locs ls hP hS hl
  refine zn_W hx (x := (⟨"java/lang/reflect/Array", "set", "(Ljava/lang/Object;ILjava/lang/Object;)V"⟩ : MethodName)) (ps := [.object "java/lang/Object", .int, .object "java/lang/Object"]) (ret := none) (argsL := [.ref a, .int (iI i), .ref b]) (rest := rest) hb hl.1 hown (hts _ w1) (hts _ w2) (hts _ w3) (hts _ w4) (by decide +kernel) (by decide) rfl d (by omega) (by have e1 : operandWords [.ref a, .int (iI i), .ref b] = 3 := rfl; have e2 : nativeFrameWords "java/lang/reflect/Array" "set" 3 = 5 := (by decide +kernel); show (rest.map fun v => v.category).sum + (nativeFrameWords "java/lang/reflect/Array" "set" (operandWords [.ref a, .int (iI i), .ref b]) + 11) ≤ _; rw [e1, e2]; omega) (fun T hT9 X9 m9 k9 meth9 N9 hroom => ?_)
  have hal := X9.warmed.alike
  have hcell : T.heap[a]? = some (vp_cell cA x) := by rw [hT9]; exact (hP.1 a _ hM).1
  obtain ⟨hobj, kA, hkA, comp, hkind⟩ := arrOfT_moved hal (hK.2 t0 _ ht).1 x.1 (zvl x)
  rw [← zvl_cell] at hobj hkA
  have hkn : (vp_cell cA x).vm ≠ .unknown := by rw [zvl_known]; intro h; cases h
  have hsize : (vp_cell cA x).slots.size = x.1 := by rw [zvl_cell, arrV_size]
  obtain ⟨i1, i2⟩ := zin_of h0 h1 h2
  have i3 : ¬ iI i < 0 := fun h => i1 (Or.inl h)
  have i4 : (iI i).toNatClampNeg < (vp_cell cA x).slots.size := by rw [hsize]; exact Nat.lt_of_not_le (fun h => i1 (Or.inr h))
  have hv0 : (vp_cell cA x).slots[(iI i).toNatClampNeg]? = some (zvl x i.toNat) := by rw [zvl_cell, i2]; exact arrV_read cA (zvl x) (by omega)
  obtain ⟨cy, j1, j2, j3⟩ := zrec_cell (zrec_P hb9) hc9 hU hP
  obtain ⟨kA2, comp2, k1, k2, k3, k4⟩ := va_RA.moved hal (hK.2 t0 _ ht).2
  have k5 : kA2 = kA := Option.some.inj (k1.symm.trans (by rw [← zvl_cls cA x]; exact hkA))
  subst k5
  have k6 : comp2 = comp := by rw [hkind] at k2; injection k2 with k2 _; exact k2.symm
  subst k6
  have j4 : T.heap[b]? = some cy := by rw [hT9]; exact j1
  have j5 : ∀ k, cy.vm ≠ .statics k := fun k h => by rw [h] at j2; cases j2
  obtain ⟨ky, j6, -⟩ := xcls (show T.vm.findClass Cn = some cy.cls by rw [hal.findClass]; exact j3)
  obtain ⟨kc, j7, -⟩ := xcls k3
  obtain ⟨c1, c2, q1, q2, q3⟩ := hT.no hU hno
  cases Option.some.inj (q1.symm.trans j3)
  cases Option.some.inj ((show T.vm.findClass E = some c2 by rw [hal.findClass]; exact q2).symm.trans k3)
  have j8 : T.vm.assignable cy.cls comp2 = false := by rw [hal.assignable]; exact q3
  have hseen : seenByNative meth9 #[.ref a, .int (iI i), .ref b] = #[.ref a, .int (iI i), .ref b] := by simp [seenByNative, N9.static, N9.sig, narrow]
  obtain ⟨t, a1, b1⟩ := (show zo_Note p l e R s m args below meth c H locs n k Q (F0 m pc ls rest) "java/lang/IllegalArgumentException" (some "array element type mismatch") from zo_zS (names := ["java/lang/RuntimeException", "java/lang/Exception"]) (nb := 130) hx hts hU hlk hT hZ (by decide +kernel) (by decide +kernel) (by decide +kernel) (by decide +kernel) xat_I hP hS hl (by decide +kernel) (zo_130) (by decide) (by simp only [List.length_cons, List.length_nil]; omega) hlo (by omega) (by decide) hce hsl kx) T hT9 X9 { method := m9, args := seenByNative meth9 #[.ref a, .int (iI i), .ref b], locked := none } rfl rfl rfl
  refine ⟨t, fun acts => ?_, b1⟩
  refine zn_throws (row := Native.java_lang_reflect_Array.elements.set) (g := F0 m pc ls rest) X9.here acts N9.cls N9.meth N9.boot N9.native N9.noCode N9.noLock (by rw [N9.className, N9.name, N9.desc]; exact zr_set p) (by rw [N9.className, N9.name]; exact hroom) (fun E9 hq => ?_) a1
  rw [hseen] at hq ⊢
  exact zw_stMis hcell hobj hkA hkind (show Native.java_lang_reflect_Array.elements.isReference (.object E) = true from rfl) i3 i4 j4 j5 j6 j7 j8 (fun acts' => hq acts')
end ZNV
theorem zc_set : zNc1 (⟨"java/lang/reflect/Array", "set", "(Ljava/lang/Object;ILjava/lang/Object;)V"⟩ : MethodName) "ReflectMirror" 180 := ⟨q1627, q1629, q1628, q131⟩
