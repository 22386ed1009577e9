/-! ===== arraycopy ===== -/
def zTxt (t : String) : Prop := (t == notModelled) = false ∧ (stringBytes (stringToUtf16 t)).size ≤ 400
theorem zTxt_of {w : String} (h : w.toList.length ≤ 80) : zTxt ("arraycopy: " ++ w) := by
  have b1 := stringBytes_size_le (stringToUtf16 ("arraycopy: " ++ w))
  have b2 := utf16_size_le ("arraycopy: " ++ w)
  have b3 : ("arraycopy: " ++ w).toList.length ≤ 91 := by
    rw [String.toList_append, List.length_append]
    have : ("arraycopy: " : String).toList.length = 11 := by decide
    omega
  refine ⟨?_, by omega⟩
  rw [beq_eq_false_iff_ne]
  intro h
  have h2 := congrArg String.toList h
  rw [String.toList_append] at h2
  have h4 : notModelled.toList = '\u0000' :: " a message that is not modelled".toList := by decide
  have h5 : ("arraycopy: " : String).toList = 'a' :: "rraycopy: ".toList := by decide
  rw [h4, h5] at h2
  simp at h2
theorem zTxt_a {t u v : String} (h : t = toString "arraycopy: type mismatch: can not copy " ++ toString u ++ toString "[] into " ++ toString v ++ toString "[]") (hu : u.toList.length ≤ 12) (hv : v.toList.length ≤ 12) : zTxt t := by
  have b1 : (toString "arraycopy: type mismatch: can not copy ").toList.length = 39 := by decide
  have b2 : (toString "[] into ").toList.length = 8 := by decide
  have b3 : (toString "[]").toList.length = 2 := by decide
  have b4 : (toString u).toList.length ≤ 12 := hu
  have b5 : (toString v).toList.length ≤ 12 := hv
  have b6 : (toString "arraycopy: type mismatch: can not copy ").toList = 'a' :: "rraycopy: type mismatch: can not copy ".toList := by decide
  have h4 : notModelled.toList = '\u0000' :: " a message that is not modelled".toList := by decide
  have h1 := congrArg String.toList h
  rw [String.toList_append, String.toList_append, String.toList_append, String.toList_append] at h1
  have hlen := congrArg List.length h1
  simp only [List.length_append] at hlen
  have c1 := stringBytes_size_le (stringToUtf16 t)
  have c2 := utf16_size_le t
  refine ⟨?_, by omega⟩
  rw [beq_eq_false_iff_ne]
  intro h9
  rw [h9, h4, b6] at h1
  simp at h1
theorem zkn_len (t : FieldType) : (Native.java_lang_System.arraycopy.kindName t).toList.length ≤ 12 := by
  have h : ("object array" : String).toList.length ≤ 12 := by decide
  cases t <;> first | decide | exact h
theorem zint_print (z : Int) (h1 : -10000000000 < z) (h2 : z < 10000000000) : (toString z).toList.length ≤ 11 := by
  show (Int.repr z).toList.length ≤ 11
  cases z with
  | ofNat m =>
    have h1' : (m : Int) < 10000000000 := h2
    have := nat_print (n := m) (by omega)
    show (toString m).toList.length ≤ 11
    omega
  | negSucc m =>
    have h2' : (-10000000000 : Int) < -((m : Int) + 1) := by simpa [Int.negSucc_eq] using h1
    have := nat_print (n := m.succ) (by omega)
    show ("-" ++ toString m.succ).toList.length ≤ 11
    rw [String.toList_append, List.length_append]
    have h0 : "-".toList.length = 1 := by decide
    omega
theorem zarr_len (t : FieldType) (n : Nat) (h : n ≤ 2147483647) : (toString (Native.java_lang_System.arraycopy.kindName t) ++ toString "[" ++ toString n ++ toString "]" : String).toList.length ≤ 24 := by
  have a1 := zkn_len t
  have a2 := nat_print (n := n) (by omega)
  have a3 : (toString "[").toList.length = 1 := by decide
  have a4 : (toString "]").toList.length = 1 := by decide
  have a5 : (toString (Native.java_lang_System.arraycopy.kindName t)).toList.length ≤ 12 := a1
  simp only [String.toList_append, List.length_append]
  omega
theorem zn_throwsE {tb : Tables} {e : Env} {below : List Frame} {s : State} {g : JFrame} {c : Code} (h : At s g.method c below)
    {m : MethodId} {meth : Method} {k : Class} {row : NativeRow} {args : Array Value}
    (hk : s.vm.classes[m.cls]? = some k) (hx : k.methods[m.idx]? = some meth) (hboot : k.loader = none) (hnat : meth.isNative = true) (hc : meth.code = none) (hl : meth.locks = false)
    (hrow : NativeRow.find? tb.natives k.name meth.name meth.desc = some row)
    (hroom : e.platform.stackFull (((s.setTop g).threads[(s.setTop g).cur]?).getD { frames := [] }) (s.setTop g).frames (nativeFrameWords k.name meth.name (operandWords args.toList)) = false)
    {cls : String} {D : String → Prop}
    (hw : ∀ E : CtlPost, (∀ msg, D msg → ∀ acts', E (.throwNew cls (some msg)) acts' ((s.setTop g).pushFrame (.native { method := m, args := seenByNative meth args, locked := none }))) →
      wp (row.sem (seenByNative meth args)) (fun _ _ _ _ => False) E e false [] ((s.setTop g).pushFrame (.native { method := m, args := seenByNative meth args, locked := none }))) :
    ∃ msg, D msg ∧ ∀ acts target, Steps tb e below (((s.setTop g).pushFrame (.native { method := m, args := seenByNative meth args, locked := none })).pushFrame (.throwNew cls (some msg) none)) target → Steps tb e below (doInvoke e (s.setTop g) acts m args).1 target := by
  have w1 : wpRun (row.sem (seenByNative meth args)) (fun _ _ _ => False) (fun x u _ => ∃ msg, D msg ∧ x = .throwNew cls (some msg) ∧ u = (s.setTop g).pushFrame (.native { method := m, args := seenByNative meth args, locked := none })) e
      ((s.setTop g).pushFrame (.native { method := m, args := seenByNative meth args, locked := none })) := hw _ (fun msg hm _ => ⟨msg, hm, rfl, rfl⟩)
  have w2 := (wpRun_iff_run _ _ _ _ _).mp w1
  have hm : (s.setTop g).vm.method? m = some meth := by
    show s.vm.method? m = some meth
    simp [Vm.method?, hk, hx]
  have hn : (((s.setTop g).vm.classes[m.cls]?).map (·.name)).getD "" = k.name := by
    show ((s.vm.classes[m.cls]?).map (·.name)).getD "" = k.name
    simp [hk]
  have hf := frames_entered (g := g) h.top (.native { method := m, args := seenByNative meth args, locked := none })
  obtain ⟨mid, hu⟩ := h.above
  cases hr : (row.sem (seenByNative meth args)).run e ((s.setTop g).pushFrame (.native { method := m, args := seenByNative meth args, locked := none })) with
  | ok v u acts1 => rw [hr] at w2; exact w2.elim
  | ctl x u acts1 =>
    rw [hr] at w2
    have w3 : ∃ msg, D msg ∧ x = .throwNew cls (some msg) ∧ u = (s.setTop g).pushFrame (.native { method := m, args := seenByNative meth args, locked := none }) := by
      cases x <;> first
        | exact w2.elim
        | exact w2
    obtain ⟨msg, hD, h1, h2⟩ := w3
    refine ⟨msg, hD, fun acts target k9 => ?_⟩
    rw [(Fast.doInvoke_native (s := s.setTop g) (e := e) (acts := acts) (args := args) hm hnat hc hl (by rw [hn]; exact hroom)).1]
    refine Steps.head ⟨h.running, by simpa using h.runnable, by simpa using h.alone⟩ ⟨.native { method := m, args := seenByNative meth args, locked := none } :: .java g :: mid, by rw [hf, hu]; rfl, by simp, by simp⟩ ?_
    rw [stepThread_native (f := { method := m, args := seenByNative meth args, locked := none }) (k := k) (x := meth) (row := row) hf hk hx hboot hrow rfl, hr]
    subst h1; subst h2
    exact k9
section ZCW
variable {E : CtlPost} {e : Env} {d : Bool} {acts : List Action} {s : State} {src dst : Addr} {i j w : Int32} {cs cd : Cell} {ks kd : Class} {sc dc : ClassId} {st dt : FieldType} {Q : Option Value → Pre}
theorem zw_cpMis (hs : s.heap[src]? = some cs) (hd : s.heap[dst]? = some cd) (hsobj : ∀ k, cs.vm ≠ .statics k) (hdobj : ∀ k, cd.vm ≠ .statics k) (hks : s.vm.classes[cs.cls]? = some ks) (hkd : s.vm.classes[cd.cls]? = some kd) (hsk : ks.kind = .array sc st) (hdk : kd.kind = .array dc dt)
    (hty : ((refKind st != refKind dt) || (!refKind st && st != dt)) = true) (hq : ∀ msg, zTxt msg → ∀ acts', E (.throwNew "java/lang/ArrayStoreException" (some msg)) acts' s) : wp (Native.java_lang_System.arraycopy.sem #[.ref src, .int i, .ref dst, .int j, .int w]) Q E e d acts s := by
  rw [Native.java_lang_System.arraycopy.sem_refs]
  unfold Native.java_lang_System.arraycopy.behind
  simp only [wp_bind', W.classOf, W.theClass, hs, hd, hks, hkd, Option.some.injEq, exists_eq_left', hsk, hdk]
  refine ⟨hsobj, hdobj, ?_⟩
  unfold refKind at hty
  simp only [hty, if_true]
  simp only [wp_bind', W.mark, W.throwNew]
  exact hq _ (zTxt_a rfl (zkn_len st) (zkn_len dt)) _
theorem zw_cpOut (hs : s.heap[src]? = some cs) (hd : s.heap[dst]? = some cd) (hsobj : ∀ k, cs.vm ≠ .statics k) (hdobj : ∀ k, cd.vm ≠ .statics k) (hks : s.vm.classes[cs.cls]? = some ks) (hkd : s.vm.classes[cd.cls]? = some kd) (hsk : ks.kind = .array sc st) (hdk : kd.kind = .array dc dt)
    (hty : ((refKind st != refKind dt) || (!refKind st && st != dt)) = false) (n1 : cs.slots.size ≤ 2147483647) (n2 : cd.slots.size ≤ 2147483647) (hout : i < 0 ∨ j < 0 ∨ w < 0 ∨ i.toInt + w.toInt > cs.slots.size ∨ j.toInt + w.toInt > cd.slots.size) (hq : ∀ msg, zTxt msg → ∀ acts', E (.throwNew "java/lang/ArrayIndexOutOfBoundsException" (some msg)) acts' s) : wp (Native.java_lang_System.arraycopy.sem #[.ref src, .int i, .ref dst, .int j, .int w]) Q E e d acts s := by
  rw [Native.java_lang_System.arraycopy.sem_refs]
  unfold Native.java_lang_System.arraycopy.behind
  simp only [wp_bind', W.classOf, W.theClass, hs, hd, hks, hkd, Option.some.injEq, exists_eq_left', hsk, hdk]
  refine ⟨hsobj, hdobj, ?_⟩
  unfold refKind at hty
  simp only [hty, Bool.false_eq_true, if_false]
  simp only [wp_bind', W.sizeOf, hs, hd, Option.some.injEq, exists_eq_left']
  have q1 := zarr_len st cs.slots.size n1
  have q2 := zarr_len dt cd.slots.size n2
  have i1 := int32_print i
  have i2 := int32_print j
  have i3 := int32_print w
  have r1 := Int32.toInt_lt i
  have r2 := Int32.le_toInt i
  have r3 := Int32.toInt_lt j
  have r4 := Int32.le_toInt j
  have r5 := Int32.toInt_lt w
  have r6 := Int32.le_toInt w
  have i4 := zint_print (i.toInt + w.toInt) (by omega) (by omega)
  have i5 := zint_print (j.toInt + w.toInt) (by omega) (by omega)
  have l1 : (toString "source index ").toList.length = 13 := by decide
  have l2 : (toString " out of bounds for ").toList.length = 19 := by decide
  have l3 : (toString "destination index ").toList.length = 18 := by decide
  have l4 : (toString "length ").toList.length = 7 := by decide
  have l5 : (toString " is negative").toList.length = 12 := by decide
  have l6 : (toString "last source index ").toList.length = 18 := by decide
  have l7 : (toString "last destination index ").toList.length = 23 := by decide
  by_cases c1 : i < 0
  · simp only [c1, if_true, wp_bind', W.mark, W.throwNew]
    refine hq _ (zTxt_of ?_) _
    rw [String.toList_append, String.toList_append, String.toList_append, List.length_append, List.length_append, List.length_append]
    have q3 : (toString (toString (Native.java_lang_System.arraycopy.kindName st) ++ toString "[" ++ toString cs.slots.size ++ toString "]" : String)).toList.length ≤ 24 := q1
    omega
  · by_cases c2 : j < 0
    · simp only [c1, c2, if_true, if_false, wp_bind', W.mark, W.throwNew]
      refine hq _ (zTxt_of ?_) _
      rw [String.toList_append, String.toList_append, String.toList_append, List.length_append, List.length_append, List.length_append]
      have q3 : (toString (toString (Native.java_lang_System.arraycopy.kindName dt) ++ toString "[" ++ toString cd.slots.size ++ toString "]" : String)).toList.length ≤ 24 := q2
      omega
    · by_cases c3 : w < 0
      · simp only [c1, c2, c3, if_true, if_false, wp_bind', W.mark, W.throwNew]
        refine hq _ (zTxt_of ?_) _
        rw [String.toList_append, String.toList_append, List.length_append, List.length_append]
        omega
      · by_cases c4 : i.toInt + w.toInt > cs.slots.size
        · simp only [c1, c2, c3, c4, if_true, if_false, wp_bind', W.mark, W.throwNew]
          refine hq _ (zTxt_of ?_) _
          rw [String.toList_append, String.toList_append, String.toList_append, List.length_append, List.length_append, List.length_append]
          have q3 : (toString (toString (Native.java_lang_System.arraycopy.kindName st) ++ toString "[" ++ toString cs.slots.size ++ toString "]" : String)).toList.length ≤ 24 := q1
          omega
        · have c5 : j.toInt + w.toInt > cd.slots.size := by
            rcases hout with h | h | h | h | h
            · exact absurd h c1
            · exact absurd h c2
            · exact absurd h c3
            · exact absurd h c4
            · exact h
          simp only [c1, c2, c3, c4, c5, if_true, if_false, wp_bind', W.mark, W.throwNew]
          refine hq _ (zTxt_of ?_) _
          rw [String.toList_append, String.toList_append, String.toList_append, List.length_append, List.length_append, List.length_append]
          have q3 : (toString (toString (Native.java_lang_System.arraycopy.kindName dt) ++ toString "[" ++ toString cd.slots.size ++ toString "]" : String)).toList.length ≤ 24 := q2
          omega
end ZCW

