section
variable {p : Program} {l : Launch} {e : Env} {R : Room} {s : State} {m : MethodId} {args : Array Value} {below : List Frame} {meth : Method} {c : Code} {H : Heap} {locs : List Loc} {cells slots : Nat}
/-- a throw is noted over the frame of a native -/
def zo_Note (p : Program) (l : Launch) (e : Env) (R : Room) (s : State) (m : MethodId) (args : Array Value) (below : List Frame) (meth : Method) (c : Code) (H : Heap) (locs : List Loc) (cells slots : Nat) (Q : State → Prop) (g : JFrame) (E : String) (msg : Option String) : Prop :=
  ∀ T : State, T.heap = H → Stand p l e R s m args below meth c T locs cells slots → ∀ nf : NFrame, nf.awaiting = false → nf.locked = none → nf.words = 0 → ∃ t, Steps p.tables e below (((T.setTop g).pushFrame (.native nf)).pushFrame (.throwNew E msg none)) t ∧ Q t
theorem zo_vmS {pc : Nat} {ls : Array Slot} {rest : List Value} {Q : State → Prop} (hexec : p.tables.exec = Jvm.exec) (hl : l.stackTraces = false) {cls text : String} {names : List String} {nb : Nat} {A : Nat → Prop}
    (hcls : Bundle.fit cls = true) (hnames : ∀ n ∈ names, Bundle.fit n = true) (hsoe : (cls == "java/lang/StackOverflowError") = false) (hoom : (cls == "java/lang/OutOfMemoryError") = false)
    (hat : ∀ w ∈ vx_atM cls names, w.before args s = true) (hgood : ∀ w ∈ vx_atM cls names, vx_ot w = true)
    (hU : vx_Zq Bundle.tN "UNASSIGNED_STACK" Bundle.steD A s s.heap) (hN : vx_Zq Bundle.tN "SUPPRESSED_SENTINEL" Bundle.listD A s s.heap) (hS : va_S A s.heap H locs) (hsize : ls.size = c.maxLocals)
    (htext : (text == notModelled) = false) (hnb : (stringBytes (stringToUtf16 text)).size ≤ nb) (hnb1 : nb ≤ 1000)
    (hRframes : names.length + 5 < R.frames) (hRlocals : (rest.map fun v => v.category).sum + 10240 ≤ R.locals) (hshort : 13 * names.length + 55 ≤ 10240) (hRcells : cells + 3 ≤ R.cells) (hRslots : slots + (nb + 10) ≤ R.slots) (hlocks : meth.locks = false)
    (k : ∀ (H1 : Heap) (q9 : Addr) (ce : Cell), H.size ≤ H1.size → (∀ q : Nat, q < H.size → H1[q]? = H[q]?) → va_S A s.heap H1 locs → H1[q9]? = some ce → ce.vm = .none → s.vm.findClass cls = some ce.cls → vx_W p l e R s m args below meth c H1 locs (cells + 3) (slots + (nb + 10)) Q (F0 m pc ls rest) q9) :
    zo_Note p l e R s m args below meth c H locs cells slots Q (F0 m pc ls rest) cls (some text) := by
  intro T hT X nf n1 n2 n3
  have htr : e.platform.stackTraces = false := (show e.platform.stackTraces = l.stackTraces by rw [X.admits.platform]).trans hl
  have Y := vx_rebase X (R' := { frames := R.frames, locals := R.locals, cells := 3, slots := nb + 10 }) (Nat.le_refl _) (Nat.le_refl _) hRcells hRslots
  have hhp : ((T.setVm s.vm).setFrames (.invoking m args :: below)).heap = H := hT
  have hW0 : s.WarmedH ((T.setVm s.vm).setFrames (.invoking m args :: below)).vm := State.WarmedH.refl s
  have hat' : ∀ w ∈ vx_atM cls names, w.before args ((T.setVm s.vm).setFrames (.invoking m args :: below)) = true := fun w hw => vx_ot_at hW0 rfl (hgood w hw) (hat w hw)
  have hU' : vx_Zq Bundle.tN "UNASSIGNED_STACK" Bundle.steD A ((T.setVm s.vm).setFrames (.invoking m args :: below)) ((T.setVm s.vm).setFrames (.invoking m args :: below)).heap := by rw [hhp]; exact vx_Zq.moved hW0.alike (hU.kept hS.2.1)
  have hN' : vx_Zq Bundle.tN "SUPPRESSED_SENTINEL" Bundle.listD A ((T.setVm s.vm).setFrames (.invoking m args :: below)) ((T.setVm s.vm).setFrames (.invoking m args :: below)).heap := by rw [hhp]; exact vx_Zq.moved hW0.alike (hN.kept hS.2.1)
  obtain ⟨S, q, ce, st, Z, hce, hcl', hv⟩ := zo_atS Y hexec htr (cls := cls) (names := names) (text := text) hcls hnames hsoe hoom (vx_own hat' (vx_isRefq hU'.1) (vx_isRefq hN'.1) hU'.2.word hN'.2.word) (fun x hx => nomatch hx) htext
    (by rw [Launch.admits_arrayLengthLimit X.admits]; omega) (by rw [Launch.admits_maxHeapBytes X.admits]; simp only [componentBytes]; omega)
    (nf := nf) n1 n2 n3 (g := F0 m pc ls rest) rfl hsize hRframes (by show 2 * 0 + (rest.map fun v => v.category).sum + 10240 ≤ R.locals; omega) hshort (by show 0 + 3 ≤ 3; omega) (by show 0 + (_ + 4 + 6) ≤ nb + 10; omega) hlocks
  obtain ⟨f1, f2⟩ := vx_frame Z.same
  have f1' : H.size ≤ S.heap.size := by rw [← hT]; exact f1
  have f2' : ∀ q : Nat, q < H.size → S.heap[q]? = H[q]? := fun q hq => by
    rw [← hT]
    exact f2 q (by rw [← hT] at hq; exact hq) (fun z hz => nomatch hz)
  have X5 := vx_back9 X Y Z
  have X6 : Stand p l e R s m args below meth c S locs (cells + 3) (slots + (nb + 10)) := { X5 with same := X5.same.mono (by omega) (by omega) }
  obtain ⟨t, a1, b1⟩ := k S.heap q ce f1' f2' ⟨Nat.le_trans hS.1 f1', fun q h1 h2 => (f2' q (Nat.lt_of_lt_of_le h1 hS.1)).trans (hS.2.1 q h1 h2), hS.2.2⟩ hce hv hcl' S rfl X6
  exact ⟨t, st t a1, b1⟩
theorem zo_vm0 {pc : Nat} {ls : Array Slot} {rest : List Value} {Q : State → Prop} (hexec : p.tables.exec = Jvm.exec) (hl : l.stackTraces = false) {cls : String} {names : List String} {A : Nat → Prop}
    (hcls : Bundle.fit cls = true) (hnames : ∀ n ∈ names, Bundle.fit n = true) (hsoe : (cls == "java/lang/StackOverflowError") = false) (hoom : (cls == "java/lang/OutOfMemoryError") = false)
    (hat : ∀ w ∈ (zo_wd cls names).filter vx_no, w.before args s = true) (hgood : ∀ w ∈ (zo_wd cls names).filter vx_no, vx_ot w = true)
    (hU : vx_Zq Bundle.tN "UNASSIGNED_STACK" Bundle.steD A s s.heap) (hN : vx_Zq Bundle.tN "SUPPRESSED_SENTINEL" Bundle.listD A s s.heap) (hS : va_S A s.heap H locs) (hsize : ls.size = c.maxLocals)
    (hini : (Cond.initialized cls).before args s = true)
    (hRframes : names.length + 5 < R.frames) (hRlocals : (rest.map fun v => v.category).sum + 10240 ≤ R.locals) (hshort : 13 * names.length + 55 ≤ 10240) (hRcells : cells + 1 ≤ R.cells) (hRslots : slots + 6 ≤ R.slots) (hlocks : meth.locks = false)
    (k : ∀ (H1 : Heap) (q9 : Addr) (ce : Cell), H.size ≤ H1.size → (∀ q : Nat, q < H.size → H1[q]? = H[q]?) → va_S A s.heap H1 locs → H1[q9]? = some ce → ce.vm = .none → s.vm.findClass cls = some ce.cls → vx_W p l e R s m args below meth c H1 locs (cells + 1) (slots + 6) Q (F0 m pc ls rest) q9) :
    zo_Note p l e R s m args below meth c H locs cells slots Q (F0 m pc ls rest) cls none := by
  intro T hT X nf n1 n2 n3
  have htr : e.platform.stackTraces = false := (show e.platform.stackTraces = l.stackTraces by rw [X.admits.platform]).trans hl
  have Y := vx_rebase X (R' := { frames := R.frames, locals := R.locals, cells := 1, slots := 6 }) (Nat.le_refl _) (Nat.le_refl _) hRcells hRslots
  have hhp : ((T.setVm s.vm).setFrames (.invoking m args :: below)).heap = H := hT
  have hW0 : s.WarmedH ((T.setVm s.vm).setFrames (.invoking m args :: below)).vm := State.WarmedH.refl s
  have hat' : ∀ w ∈ (zo_wd cls names).filter vx_no, w.before args ((T.setVm s.vm).setFrames (.invoking m args :: below)) = true := fun w hw => vx_ot_at hW0 rfl (hgood w hw) (hat w hw)
  have hU' : vx_Zq Bundle.tN "UNASSIGNED_STACK" Bundle.steD A ((T.setVm s.vm).setFrames (.invoking m args :: below)) ((T.setVm s.vm).setFrames (.invoking m args :: below)).heap := by rw [hhp]; exact vx_Zq.moved hW0.alike (hU.kept hS.2.1)
  have hN' : vx_Zq Bundle.tN "SUPPRESSED_SENTINEL" Bundle.listD A ((T.setVm s.vm).setFrames (.invoking m args :: below)) ((T.setVm s.vm).setFrames (.invoking m args :: below)).heap := by rw [hhp]; exact vx_Zq.moved hW0.alike (hN.kept hS.2.1)
  obtain ⟨S, q, ce, st, Z, hce, hcl', hv⟩ := zo_at0 Y hexec htr (cls := cls) (names := names) hcls hnames hsoe hoom (vx_own hat' (vx_isRefq hU'.1) (vx_isRefq hN'.1) hU'.2.word hN'.2.word) (vx_ot_at hW0 rfl rfl hini) (fun x hx => nomatch hx)
    (nf := nf) n1 n2 n3 (g := F0 m pc ls rest) rfl hsize hRframes (by show 2 * 0 + (rest.map fun v => v.category).sum + 10240 ≤ R.locals; omega) hshort (by show 0 + 1 ≤ 1; omega) (by show 0 + 6 ≤ 6; omega) hlocks
  obtain ⟨f1, f2⟩ := vx_frame Z.same
  have f1' : H.size ≤ S.heap.size := by rw [← hT]; exact f1
  have f2' : ∀ q : Nat, q < H.size → S.heap[q]? = H[q]? := fun q hq => by
    rw [← hT]
    exact f2 q (by rw [← hT] at hq; exact hq) (fun z hz => nomatch hz)
  have X5 := vx_back9 X Y Z
  have X6 : Stand p l e R s m args below meth c S locs (cells + 1) (slots + 6) := { X5 with same := X5.same.mono (by omega) (by omega) }
  obtain ⟨t, a1, b1⟩ := k S.heap q ce f1' f2' ⟨Nat.le_trans hS.1 f1', fun q h1 h2 => (f2' q (Nat.lt_of_lt_of_le h1 hS.1)).trans (hS.2.1 q h1 h2), hS.2.2⟩ hce hv hcl' S rfl X6
  exact ⟨t, st t a1, b1⟩
end
/-- a native that throws -/
theorem zn_throws {tb : Tables} {e : Env} {below : List Frame} {s target : State} {g : JFrame} {c : Code} (h : At s g.method c below)
    {m : MethodId} {meth : Method} {k : Class} {row : NativeRow} {args : Array Value} (acts : List Action)
    (hk : s.vm.classes[m.cls]? = some k) (hx : k.methods[m.idx]? = some meth) (hboot : k.loader = none) (hnat : meth.isNative = true) (hc : meth.code = none) (hl : meth.locks = false)
    (hrow : NativeRow.find? tb.natives k.name meth.name meth.desc = some row)
    (hroom : e.platform.stackFull (((s.setTop g).threads[(s.setTop g).cur]?).getD { frames := [] }) (s.setTop g).frames (nativeFrameWords k.name meth.name (operandWords args.toList)) = false)
    {cls : String} {msg : Option String}
    (hw : ∀ E : CtlPost, (∀ acts', E (.throwNew cls msg) acts' ((s.setTop g).pushFrame (.native { method := m, args := seenByNative meth args, locked := none }))) →
      wp (row.sem (seenByNative meth args)) (fun _ _ _ _ => False) E e false [] ((s.setTop g).pushFrame (.native { method := m, args := seenByNative meth args, locked := none })))
    (k9 : Steps tb e below (((s.setTop g).pushFrame (.native { method := m, args := seenByNative meth args, locked := none })).pushFrame (.throwNew cls msg none)) target) :
    Steps tb e below (doInvoke e (s.setTop g) acts m args).1 target := by
  have hm : (s.setTop g).vm.method? m = some meth := by
    show s.vm.method? m = some meth
    simp [Vm.method?, hk, hx]
  have hn : (((s.setTop g).vm.classes[m.cls]?).map (·.name)).getD "" = k.name := by
    show ((s.vm.classes[m.cls]?).map (·.name)).getD "" = k.name
    simp [hk]
  rw [(Fast.doInvoke_native (s := s.setTop g) (e := e) (acts := acts) (args := args) hm hnat hc hl (by rw [hn]; exact hroom)).1]
  have hf := frames_entered (g := g) h.top (.native { method := m, args := seenByNative meth args, locked := none })
  obtain ⟨mid, hu⟩ := h.above
  refine Steps.head ⟨h.running, by simpa using h.runnable, by simpa using h.alone⟩ ⟨.native { method := m, args := seenByNative meth args, locked := none } :: .java g :: mid, by rw [hf, hu]; rfl, by simp, by simp⟩ ?_
  rw [stepThread_native (f := { method := m, args := seenByNative meth args, locked := none }) (k := k) (x := meth) (row := row) hf hk hx hboot hrow rfl]
  have w1 : wpRun (row.sem (seenByNative meth args)) (fun _ _ _ => False) (fun x u _ => x = .throwNew cls msg ∧ u = (s.setTop g).pushFrame (.native { method := m, args := seenByNative meth args, locked := none })) e
      ((s.setTop g).pushFrame (.native { method := m, args := seenByNative meth args, locked := none })) := hw _ (fun _ => ⟨rfl, rfl⟩)
  have w2 := (wpRun_iff_run _ _ _ _ _).mp w1
  cases hr : (row.sem (seenByNative meth args)).run e ((s.setTop g).pushFrame (.native { method := m, args := seenByNative meth args, locked := none })) with
  | ok v u acts1 => rw [hr] at w2; exact w2.elim
  | ctl x u acts1 =>
    rw [hr] at w2
    cases x <;> first
      | exact w2.elim
      | (obtain ⟨h1, h2⟩ := w2; cases h1; subst h2; exact k9)
      | (obtain ⟨h1, -⟩ := w2; cases h1)
section
variable {p : Program} {l : Launch} {e : Env} {R : Room} {s : State} {m : MethodId} {args : Array Value} {below : List Frame} {meth : Method} {c : Code} {H : Heap} {locs : List Loc} {cells slots : Nat}
variable {Q : State → Prop}
/-- a static native is called: what its call comes to -/
theorem zn_W (hexec : p.tables.exec = Jvm.exec) {cc : ByteArray} {pc index : Nat} {ls : Array Slot} {rest argsL : List Value} {own : String} {x : MethodName} {ps : List FieldType} {ret : Option FieldType} (hb : c.code = cc) (hml : ls.size = c.maxLocals) (hown : s.vm.findClass own = some m.cls)
    (hlink : (Cond.methodLink own index x).before args s = true) (hnat : (Cond.native x).before args s = true) (hstat : (Cond.static x).before args s = true) (hinit : (Cond.initialized x.cls).before args s = true) (hd : parseMethodDescriptor x.desc = some { parameters := ps, returnType := ret }) (hx : x.cls ≠ "java/lang/invoke/MethodHandle" ∧ x.cls ≠ "java/lang/invoke/VarHandle") (hlen : argsL.length = ps.length)
    (dg : decode cc pc = .ok (.invokestatic index, 3)) (hframes : 1 ≤ R.frames) (hlocals : (rest.map fun v => v.category).sum + (nativeFrameWords x.cls x.name (operandWords argsL) + 11) ≤ R.locals)
    (k : ∀ (T : State), T.heap = H → Stand p l e R s m args below meth c T locs cells slots → ∀ (m9 : MethodId) (k9 : Class) (meth9 : Method), NativeOf T.vm m9 k9 meth9 x.cls x.name x.desc true ps →
      e.platform.stackFull (((T.setTop (F0 m pc ls rest)).threads[(T.setTop (F0 m pc ls rest)).cur]?).getD { frames := [] }) (T.setTop (F0 m pc ls rest)).frames (nativeFrameWords x.cls x.name (operandWords argsL)) = false →
      ∃ t, (∀ acts, Steps p.tables e below (doInvoke e (T.setTop (F0 m pc ls rest)) acts m9 argsL.toArray).1 t) ∧ Q t) :
    W p l e R s m args below meth c H locs cells slots Q (F0 m pc ls (argsL.reverse ++ rest)) := by
  intro T hT X
  obtain ⟨r, kS, methS, hnS, hmS, hkS, N⟩ := NativeOf.of_static hnat hstat hd
  have hinitS : kS.init = .initialized := Cond.initialized_spec (findClass_of_methodNamed hnS) hkS hinit
  obtain ⟨vm', X', step⟩ := X.invokestatic hexec hown hlink hnS hmS N.static hkS hinitS hx (g := F0 m pc ls (argsL.reverse ++ rest)) rfl (argsL := argsL) (rest := rest) (by rw [N.sig]; exact hlen) rfl (by rw [hb]; exact dg)
  obtain ⟨kS', N'⟩ := N.alike X'.warmed.alike
  obtain ⟨t, h1, h2⟩ := k (T.setVm vm') hT X' r kS' methS N' (X'.notFull (g := F0 m pc ls rest) hml (vars := nativeFrameWords x.cls x.name (operandWords argsL)) hframes (by show 2 * 0 + (rest.map fun v => v.category).sum + _ ≤ _; omega))
  exact ⟨t, step t h1, h2⟩
end
set_option maxRecDepth 100000 in
theorem zr_getBoolean (p : Program) : NativeRow.find? p.tables.natives "java/lang/reflect/Array" "getBoolean" "(Ljava/lang/Object;I)Z" = some (Native.java_lang_reflect_Array.elements.getX "Boolean" "Z" "nat.java_lang_reflect_Array.getBoolean" .boolean) := by
  cases p <;> rfl
set_option maxRecDepth 100000 in
theorem zr_setBoolean (p : Program) : NativeRow.find? p.tables.natives "java/lang/reflect/Array" "setBoolean" "(Ljava/lang/Object;IZ)V" = some (Native.java_lang_reflect_Array.elements.setX "Boolean" "Z" "nat.java_lang_reflect_Array.setBoolean" .boolean) := by
  cases p <;> rfl
set_option maxRecDepth 100000 in
theorem zr_getChar (p : Program) : NativeRow.find? p.tables.natives "java/lang/reflect/Array" "getChar" "(Ljava/lang/Object;I)C" = some (Native.java_lang_reflect_Array.elements.getX "Char" "C" "nat.java_lang_reflect_Array.getChar" .char) := by
  cases p <;> rfl
set_option maxRecDepth 100000 in
theorem zr_setChar (p : Program) : NativeRow.find? p.tables.natives "java/lang/reflect/Array" "setChar" "(Ljava/lang/Object;IC)V" = some (Native.java_lang_reflect_Array.elements.setX "Char" "C" "nat.java_lang_reflect_Array.setChar" .char) := by
  cases p <;> rfl
set_option maxRecDepth 100000 in
theorem zr_getByte (p : Program) : NativeRow.find? p.tables.natives "java/lang/reflect/Array" "getByte" "(Ljava/lang/Object;I)B" = some (Native.java_lang_reflect_Array.elements.getX "Byte" "B" "nat.java_lang_reflect_Array.getByte" .byte) := by
  cases p <;> rfl
set_option maxRecDepth 100000 in
theorem zr_setByte (p : Program) : NativeRow.find? p.tables.natives "java/lang/reflect/Array" "setByte" "(Ljava/lang/Object;IB)V" = some (Native.java_lang_reflect_Array.elements.setX "Byte" "B" "nat.java_lang_reflect_Array.setByte" .byte) := by
  cases p <;> rfl
set_option maxRecDepth 100000 in
theorem zr_getShort (p : Program) : NativeRow.find? p.tables.natives "java/lang/reflect/Array" "getShort" "(Ljava/lang/Object;I)S" = some (Native.java_lang_reflect_Array.elements.getX "Short" "S" "nat.java_lang_reflect_Array.getShort" .short) := by
  cases p <;> rfl
set_option maxRecDepth 100000 in
theorem zr_setShort (p : Program) : NativeRow.find? p.tables.natives "java/lang/reflect/Array" "setShort" "(Ljava/lang/Object;IS)V" = some (Native.java_lang_reflect_Array.elements.setX "Short" "S" "nat.java_lang_reflect_Array.setShort" .short) := by
  cases p <;> rfl
set_option maxRecDepth 100000 in
theorem zr_getInt (p : Program) : NativeRow.find? p.tables.natives "java/lang/reflect/Array" "getInt" "(Ljava/lang/Object;I)I" = some (Native.java_lang_reflect_Array.elements.getX "Int" "I" "nat.java_lang_reflect_Array.getInt" .int) := by
  cases p <;> rfl
set_option maxRecDepth 100000 in
theorem zr_setInt (p : Program) : NativeRow.find? p.tables.natives "java/lang/reflect/Array" "setInt" "(Ljava/lang/Object;II)V" = some (Native.java_lang_reflect_Array.elements.setX "Int" "I" "nat.java_lang_reflect_Array.setInt" .int) := by
  cases p <;> rfl
set_option maxRecDepth 100000 in
theorem zr_getLong (p : Program) : NativeRow.find? p.tables.natives "java/lang/reflect/Array" "getLong" "(Ljava/lang/Object;I)J" = some (Native.java_lang_reflect_Array.elements.getX "Long" "J" "nat.java_lang_reflect_Array.getLong" .long) := by
  cases p <;> rfl
set_option maxRecDepth 100000 in
theorem zr_setLong (p : Program) : NativeRow.find? p.tables.natives "java/lang/reflect/Array" "setLong" "(Ljava/lang/Object;IJ)V" = some (Native.java_lang_reflect_Array.elements.setX "Long" "J" "nat.java_lang_reflect_Array.setLong" .long) := by
  cases p <;> rfl
set_option maxRecDepth 100000 in
theorem zr_getFloat (p : Program) : NativeRow.find? p.tables.natives "java/lang/reflect/Array" "getFloat" "(Ljava/lang/Object;I)F" = some (Native.java_lang_reflect_Array.elements.getX "Float" "F" "nat.java_lang_reflect_Array.getFloat" .float) := by
  cases p <;> rfl
set_option maxRecDepth 100000 in
theorem zr_setFloat (p : Program) : NativeRow.find? p.tables.natives "java/lang/reflect/Array" "setFloat" "(Ljava/lang/Object;IF)V" = some (Native.java_lang_reflect_Array.elements.setX "Float" "F" "nat.java_lang_reflect_Array.setFloat" .float) := by
  cases p <;> rfl
set_option maxRecDepth 100000 in
theorem zr_getDouble (p : Program) : NativeRow.find? p.tables.natives "java/lang/reflect/Array" "getDouble" "(Ljava/lang/Object;I)D" = some (Native.java_lang_reflect_Array.elements.getX "Double" "D" "nat.java_lang_reflect_Array.getDouble" .double) := by
  cases p <;> rfl
set_option maxRecDepth 100000 in
theorem zr_setDouble (p : Program) : NativeRow.find? p.tables.natives "java/lang/reflect/Array" "setDouble" "(Ljava/lang/Object;ID)V" = some (Native.java_lang_reflect_Array.elements.setX "Double" "D" "nat.java_lang_reflect_Array.setDouble" .double) := by
  cases p <;> rfl
set_option maxRecDepth 100000 in
theorem zr_set (p : Program) : NativeRow.find? p.tables.natives "java/lang/reflect/Array" "set" "(Ljava/lang/Object;ILjava/lang/Object;)V" = some Native.java_lang_reflect_Array.elements.set := by
  cases p <;> rfl
