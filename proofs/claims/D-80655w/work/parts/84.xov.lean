/-! ===== a throw noted over any frames ===== -/
/-- the state goes on, under it lie these frames -/
def zOv (s : State) (base below : List Frame) : Prop := s.goesOn ∧ s.cur < s.threads.size ∧ ∃ mid, base = mid ++ below
theorem zOv.go {s : State} {base below : List Frame} (h : zOv s base below) : s.goesOn := h.1
theorem zOv.cur {s : State} {base below : List Frame} (h : zOv s base below) : s.cur < s.threads.size := h.2.1
theorem zOv.up {s : State} {base below : List Frame} (h : zOv s base below) : ∃ mid, base = mid ++ below := h.2.2
theorem zOv.vm {s : State} {base below : List Frame} (h : zOv s base below) (vm : Vm) : zOv (s.setVm vm) base below := ⟨⟨h.go.1, h.go.2.1, h.go.2.2⟩, h.cur, h.up⟩
theorem zOv.cell {s : State} {base below : List Frame} (h : zOv s base below) (x : Cell) : zOv (s.pushCell x) base below := ⟨⟨h.go.1, h.go.2.1, h.go.2.2⟩, h.cur, h.up⟩
theorem zOv.put {s : State} {base below : List Frame} (h : zOv s base below) (a : Addr) (x : Cell) : zOv (s.setCell a x) base below := ⟨⟨h.go.1, h.go.2.1, h.go.2.2⟩, h.cur, h.up⟩
theorem zOv.note {s : State} {base below : List Frame} (h : zOv s base below) (f : Frame) : (s.setFrames (f :: base)).goesOn ∧ (s.setFrames (f :: base)).frames = f :: base ∧ (s.setFrames (f :: base)).cur < (s.setFrames (f :: base)).threads.size := by
  have hf : (s.setFrames (f :: base)).frames = f :: base := State.frames_setFrames _ h.cur
  exact ⟨⟨h.go.1, by simpa using h.go.2.1, by simpa using h.go.2.2⟩, hf, State.cur_lt_of_frames hf⟩
/-- the frame of a constructor over the note -/
theorem zo_inside {W : State} {base below : List Frame} (h : zOv W base below) (a : Addr) (x : JFrame) {m : MethodId} {meth : Method} {code : Code} (hm : W.vm.method? m = some meth) (hc : meth.code = some code) (hp : W.plainMethod m) :
    At ((W.setFrames (.thenThrow a :: base)).pushFrame (.java x)) m code below ∧ ((W.setFrames (.thenThrow a :: base)).pushFrame (.java x)).frames = .java x :: .thenThrow a :: base := by
  obtain ⟨h1, h2, h3⟩ := h.note (.thenThrow a)
  obtain ⟨mid, hu⟩ := h.up
  refine ⟨At.pushOn x h1 h3 ⟨.thenThrow a :: mid, by rw [h2, hu]; rfl⟩ hm hc hp, ?_⟩
  rw [show ((W.setFrames (.thenThrow a :: base)).pushFrame (.java x)).frames = .java x :: (W.setFrames (.thenThrow a :: base)).frames from State.frames_setFrames _ h3, h2]
/-- the constructor has returned: the thing is thrown -/
theorem zo_thrown {tb : Tables} {e : Env} {below base : List Frame} {W target : State} (h : zOv W base below) (a : Addr) (k : Steps tb e below (W.setFrames (.throwing a :: base)) target) : Steps tb e below (W.setFrames (.thenThrow a :: base)) target := by
  obtain ⟨h1, h2, h3⟩ := h.note (.thenThrow a)
  obtain ⟨mid, hu⟩ := h.up
  refine Steps.head h1 ⟨.thenThrow a :: mid, by rw [h2, hu]; rfl, by simp, by simp⟩ ?_
  rw [stepThread_thenThrow h2, State.setFrames_setFrames]
  exact k
/-- what only touches the heap keeps this -/
theorem zOv.heap {s : State} {base below : List Frame} {H : State → State} (hH : HeapOnly H) (h : zOv s base below) {a : Addr} {x : JFrame} {m : MethodId} {meth : Method} {code : Code} (hm : s.vm.method? m = some meth) (hc : meth.code = some code) (hp : s.plainMethod m) : zOv (H s) base below := by
  obtain ⟨hI, hf⟩ := zo_inside h a x hm hc hp
  have hB := hH.at_ hI
  have e1 : H ((s.setFrames (.thenThrow a :: base)).pushFrame (.java x)) = (H s).setFrames (.java x :: .thenThrow a :: base) := by
    rw [State.pushFrame, (h.note (.thenThrow a)).2.1, State.setFrames_setFrames, hH.setFrames]
  have h9 : ((H s).setFrames (.java x :: .thenThrow a :: base)).frames = .java x :: .thenThrow a :: base := by rw [← e1, hH.frames, hf]
  have hcur := State.cur_lt_of_frames h9
  rw [e1] at hB
  exact ⟨⟨hB.running, by simpa using hB.runnable, by simpa using hB.alone⟩, by simpa [State.setFrames] using hcur, h.up⟩

theorem zo_startS {tb : Tables} {e : Env} {below base : List Frame} {s target : State} (h : zOv s base below) (Z : StringT) (LZ : Z.Laid s.vm)
    {cls m : String} {cX : ClassId} {kX : Class} {i : Nat}
    (hsoe : (cls == "java/lang/StackOverflowError") = false) (hoom : (cls == "java/lang/OutOfMemoryError") = false)
    (hfound : s.vm.findClass cls = some cX) (hk : s.vm.classes[cX]? = some kX) (hinit : kX.init = .initialized) (hord : kX.kind = .ordinary) (hhot : e.platform.hotImplicitExceptions = false)
    (hbeyond : e.platform.stackBeyond ((((s.setFrames (.throwNew cls (some m) none :: base)).threads[s.cur]?).map (·.stackBytes)).getD 0) (s.setFrames (.throwNew cls (some m) none :: base)).frames = false)
    (hfree : e.platform.vmThrowRoom ≤ e.platform.stackFree ((((s.setFrames (.throwNew cls (some m) none :: base)).threads[s.cur]?).map (·.stackBytes)).getD 0) (s.setFrames (.throwNew cls (some m) none :: base)).frames)
    (hm : (m == notModelled) = false) (hctor : kX.findMethod "<init>" "(Ljava/lang/String;)V" = some i)
    (hlimit : ¬ (stringBytes (stringToUtf16 m)).size > e.platform.arrayLengthLimit) (hheap : ¬ (stringBytes (stringToUtf16 m)).size * componentBytes .byte > e.platform.maxHeapBytes)
    (hcells : s.heap.size + 3 ≤ e.platform.maxCells) (hslots : s.slotsUsed + (stringBytes (stringToUtf16 m)).size + Z.kS.instanceTypes.size + kX.instanceTypes.size ≤ e.platform.maxSlots)
    (hfitv : s.fitsSlot Z.cS .none Z.fv.slot (.ref s.heap.size) = true) (hfitc : s.fitsSlot Z.cS .none Z.fc.slot (.int (stringCoder (stringToUtf16 m))) = true)
    (k : Steps tb e below (doInvoke e ((withThrown s Z m cX kX).setFrames (.thenThrow (s.heap.size + 2) :: base)) [] ⟨cX, i⟩ #[.ref (s.heap.size + 2), .ref (s.heap.size + 1)]).1 target) :
    Steps tb e below (s.setFrames (.throwNew cls (some m) none :: base)) target := by
  obtain ⟨h1, h2, h3⟩ := h.note (.throwNew cls (some m) none)
  obtain ⟨mid, hu⟩ := h.up
  refine Steps.head h1 ⟨.throwNew cls (some m) none :: mid, by rw [h2, hu]; rfl, by simp, by simp⟩ ?_
  rw [stepThread_throwNew h2, stepThrowNew_message (s := s.setFrames (.throwNew cls (some m) none :: base)) (c := cX) (k := kX) (i := i) Z LZ hsoe hoom hfound hk hinit hord hhot hbeyond hfree hm hctor hlimit hheap hcells hslots hfitv hfitc]
  have e1 : (withThrown (s.setFrames (.throwNew cls (some m) none :: base)) Z m cX kX).setFrames (.thenThrow ((s.setFrames (.throwNew cls (some m) none :: base)).heap.size + 2) :: base) = (withThrown s Z m cX kX).setFrames (.thenThrow (s.heap.size + 2) :: base) := by
    rw [withThrown_setFrames, State.setFrames_setFrames]
    rfl
  rw [e1]
  exact k
theorem zo_ctorS {tb : Tables} [Ours tb] {e : Env} {below base : List Frame} {s₀ W : State} (h : zOv W base below) (hexec : tb.exec = Jvm.exec)
    {H : State → State} (hH : HeapOnly H) (P1 : PassC) (L1 : P1.LinksS e.platform s₀) (hW : s₀.WarmedH W.vm) (a str : Addr)
    (hroom : e.platform.stackFull (((W.setFrames (.thenThrow a :: base)).threads[(W.setFrames (.thenThrow a :: base)).cur]?).getD { frames := [] }) (W.setFrames (.thenThrow a :: base)).frames 2 = false)
    (hsup : ∀ vm1, s₀.WarmedH vm1 → At (((W.setVm vm1).setFrames (.thenThrow a :: base)).pushFrame (.java (passJ P1.m a (.ref str) 0 []))) P1.m P1.code below → ∃ vm2, s₀.WarmedH vm2 ∧ ∀ t' : State,
      Steps tb e below ((H (((W.setVm vm2).setFrames (.thenThrow a :: base)).pushFrame (.java (passJ P1.m a (.ref str) 0 [])))).setTop (passJ P1.m a (.ref str) 5 [])) t' →
      Steps tb e below (doInvoke e ((((W.setVm vm1).setFrames (.thenThrow a :: base)).pushFrame (.java (passJ P1.m a (.ref str) 0 []))).setTop (passJ P1.m a (.ref str) 2 [])) [] P1.sup #[.ref a, .ref str]).1 t') :
    ∃ vm', s₀.WarmedH vm' ∧ ∀ target, Steps tb e below ((H (W.setVm vm')).setFrames (.throwing a :: base)) target → Steps tb e below (doInvoke e (W.setFrames (.thenThrow a :: base)) [] P1.m #[.ref a, .ref str]).1 target := by
  have hmW := hW.methodAt L1.method
  obtain ⟨hI, hfI⟩ := zo_inside h a (passJ P1.m a (.ref str) 0 []) hmW L1.code (hW.plainAt L1.plain)
  obtain ⟨vm1, hW1, st1⟩ := Steps.invokeInitCold (tb := tb) (s₀ := s₀) (U := ((W.setFrames (.thenThrow a :: base)).pushFrame (.java (passJ P1.m a (.ref str) 0 [])))) (f := (passJ P1.m a (.ref str) 2 [.ref str, .ref a])) (args := [.ref str]) (rest := []) (a := a) hI hexec L1.at2 hW L1.links L1.right L1.notHandle L1.cls L1.file L1.pool
    L1.supClass L1.supMethod L1.supName L1.supStatic L1.supAbstract L1.supFound L1.supParams.symm rfl
  obtain ⟨vm2, hW2, st2⟩ := hsup vm1 hW1 (hI.setVm (hW.alike.symm.trans hW1.alike))
  refine ⟨vm2, hW2, fun target hrest => ?_⟩
  rw [(doInvoke_java (s := (W.setFrames (.thenThrow a :: base))) (e := e) (acts := []) (args := #[.ref a, .ref str]) (meth := P1.meth) (code := P1.code) hmW L1.code L1.locks (by rw [L1.locals]; exact hroom)).1, L1.locals]
  show Steps tb e below ((W.setFrames (.thenThrow a :: base)).pushFrame (.java (passJ P1.m a (.ref str) 0 []))) target
  rw [← State.setTop_self (s := ((W.setFrames (.thenThrow a :: base)).pushFrame (.java (passJ P1.m a (.ref str) 0 [])))) (State.topJava?_of_frames hfI)]
  jvm_step hI [hexec, L1.at0, Value.isRef]
  jvm_step hI [hexec, L1.at1, Value.isRef]
  refine st1 target (st2 target ?_)
  have O2 := h.vm vm2
  have hm2 := hW2.methodAt L1.method
  have hp2 := hW2.plainAt (U := W.setVm vm2) L1.plain
  obtain ⟨hI2, hf2⟩ := zo_inside O2 a (passJ P1.m a (.ref str) 0 []) hm2 L1.code hp2
  have hB := hH.at_ hI2
  jvm_step hB [hexec, L1.at5, Op.return_.wp_sem]
  intro acts2
  have hfH : (H (((W.setVm vm2).setFrames (.thenThrow a :: base)).pushFrame (.java (passJ P1.m a (.ref str) 0 [])))).frames = .java (passJ P1.m a (.ref str) 0 []) :: .thenThrow a :: base := by rw [hH.frames]; exact hf2
  rw [ret_to (t := H (((W.setVm vm2).setFrames (.thenThrow a :: base)).pushFrame (.java (passJ P1.m a (.ref str) 0 [])))) (f := (passJ P1.m a (.ref str) 5 [])) (f₀ := (passJ P1.m a (.ref str) 0 [])) (below := .thenThrow a :: base) (fs := .thenThrow a :: base) (meth := P1.meth) hfH (by rw [hH.vm]; exact hm2) L1.locks rfl rfl rfl acts2]
  have e3 : (H (((W.setVm vm2).setFrames (.thenThrow a :: base)).pushFrame (.java (passJ P1.m a (.ref str) 0 [])))).setFrames (.thenThrow a :: base) = (H (W.setVm vm2)).setFrames (.thenThrow a :: base) := by
    rw [State.pushFrame, hH.setFrames, hH.setFrames, State.setFrames_setFrames, State.setFrames_setFrames]
  rw [e3]
  exact zo_thrown (O2.heap hH (a := a) (x := (passJ P1.m a (.ref str) 0 [])) hm2 L1.code hp2) a hrest
theorem zo_runS (p : Program) {e : Env} {below base : List Frame} {s₀ W : State} {self : Addr} (h : zOv W base below) (hexec : p.tables.exec = Jvm.exec)
    (T : ThrowableC) (L : T.Links e.platform s₀) (Z : Init0T) (LZ : Z.LaidS T.toThrowableT) (M : MsgC) (LM : M.Links T e.platform s₀) (hW : s₀.WarmedH W.vm)
    {u0 sen : RefV} {str : Addr} {cell cellS : Cell}
    (hcell : W.heap[self]? = some cell) (hvm : cell.vm = .none) (hfree : cell.monitor.owner = none)
    (hsel0 : selectMethod e.platform s₀.vm cell.cls T.fill0 = .method T.fill0)
    (hcellS : W.heap[T.aS]? = some cellS) (hneS : T.aS ≠ self) (hknownS : cellS.vm ≠ .unknown) (hvU : cellS.slots[T.fUnassigned.slot]? = some u0.v)
    (htS : Takes s₀ cell T.fStack u0.v)
    (hskip : SkipFacts T e.platform s₀ (fun u => u) u0 ((preparedCellV T.toThrowableT cell self u0 sen).withEntry W.cur))
    (htr : e.platform.stackTraces = false)
    (hselF : selectMethod e.platform s₀.vm cell.cls T.fill = .method T.fill) (hvSen : cellS.slots[T.fSentinel.slot]? = some sen.v)
    (htC : Takes s₀ cell T.fCause (.ref self)) (htP : Takes s₀ cell T.fSupp sen.v) (htM : Takes s₀ cell T.fMsg (.ref str)) (hobjLocals : T.codeObj.maxLocals = 1)
    (P1 : PassC) (L1 : P1.LinksS e.platform s₀) (Ps : List PassC) (hL : ∀ P, P ∈ Ps → P.LinksS e.platform s₀) (hlink1 : P1.sup = firstOf (Z.m T.toThrowableT) (Ps.map (·.toPassT))) (hlink : PassesOn (Z.m T.toThrowableT) (Ps.map (·.toPassT)))
    {lim : Nat × Nat} (hlim : e.platform.stackLimits W.me = lim) (hframes : base.length + Ps.length + 4 < lim.1) (hwords : (stackUse base).2 + 13 * Ps.length + 55 ≤ lim.2) :
    ∃ vm', s₀.WarmedH vm' ∧ ∀ target, Steps p.tables e below (((W.setVm vm').setCell self ((((preparedCellV T.toThrowableT cell self u0 sen).withEntry W.cur).setSlot T.fStack.slot u0.v).left.setSlot T.fMsg.slot (.ref str))).setFrames (.throwing self :: base)) target →
      Steps p.tables e below (doInvoke e (W.setFrames (.thenThrow self :: base)) [] P1.m #[.ref self, .ref str]).1 target := by
  have hfN := (h.note (.thenThrow self)).2.1
  have hlimN : e.platform.stackLimits (W.setFrames (.thenThrow self :: base)).me = lim := by rw [State.stackLimits_setFrames]; exact hlim
  have hroom := roomAbove (pl := e.platform) (u := W.setFrames (.thenThrow self :: base)) (vars := 2) (pushed := [.thenThrow self]) (base := base) (free := 13 * Ps.length + 55) (lim := lim) hfN hlimN
    (by simp only [List.length_cons, List.length_nil]; omega) (by omega) (by rw [stackUse_light _ _ (fun f hf => by cases hf) rfl, stackUse_nil]; show 0 + 2 + 11 ≤ _; omega)
  have hN : HeapOnly (fun u : State => u) := heapOnly_id
  refine zo_ctorS h hexec (H := fun u => u.setCell self ((((preparedCellV T.toThrowableT cell self u0 sen).withEntry W.cur).setSlot T.fStack.slot u0.v).left.setSlot T.fMsg.slot (.ref str))) (hN.thenSetCell self _) P1 L1 hW self str hroom (fun vm1 hW1 hI1 => ?_)
  rw [hlink1]
  obtain ⟨-, hXfr⟩ := zo_inside (h.vm vm1) self ((passJ P1.m self (.ref str) 0 [])) (hW1.methodAt L1.method) L1.code (hW1.plainAt (U := W.setVm vm1) L1.plain)
  have hXvm : ∀ w, (((W.setVm vm1).setFrames (.thenThrow self :: base)).pushFrame (.java ((passJ P1.m self (.ref str) 0 [])))).setVm w = (((W.setVm w).setFrames (.thenThrow self :: base)).pushFrame (.java ((passJ P1.m self (.ref str) 0 [])))) := fun w => by rw [State.pushFrame_setVm, State.setFrames_setVm, State.setVm_twice]
  have hXc : (((W.setVm vm1).setFrames (.thenThrow self :: base)).pushFrame (.java ((passJ P1.m self (.ref str) 0 [])))).heap[self]? = some cell := hcell
  have hXS : (((W.setVm vm1).setFrames (.thenThrow self :: base)).pushFrame (.java ((passJ P1.m self (.ref str) 0 [])))).heap[T.aS]? = some cellS := hcellS
  have hXcur : (((W.setVm vm1).setFrames (.thenThrow self :: base)).pushFrame (.java ((passJ P1.m self (.ref str) 0 [])))).cur = W.cur := rfl
  have hXW : s₀.WarmedH (((W.setVm vm1).setFrames (.thenThrow self :: base)).pushFrame (.java ((passJ P1.m self (.ref str) 0 [])))).vm := hW1
  have hXlim : e.platform.stackLimits (((W.setVm vm1).setFrames (.thenThrow self :: base)).pushFrame (.java ((passJ P1.m self (.ref str) 0 [])))).me = lim := by rw [State.stackLimits_pushFrame, State.stackLimits_setFrames]; exact hlim
  suffices hs : ∃ vm2, s₀.WarmedH vm2 ∧ ∀ t' : State, Steps p.tables e below ((((((W.setVm vm1).setFrames (.thenThrow self :: base)).pushFrame (.java ((passJ P1.m self (.ref str) 0 [])))).setVm vm2).setCell self ((((preparedCellV T.toThrowableT cell self u0 sen).withEntry W.cur).setSlot T.fStack.slot u0.v).left.setSlot T.fMsg.slot (.ref str))).setTop ((passJ P1.m self (.ref str) 5 []))) t' →
      Steps p.tables e below (doInvoke e ((((W.setVm vm1).setFrames (.thenThrow self :: base)).pushFrame (.java ((passJ P1.m self (.ref str) 0 [])))).setTop ((passJ P1.m self (.ref str) 2 []))) [] (firstOf (Z.m T.toThrowableT) (Ps.map (·.toPassT))) #[.ref self, .ref str]).1 t' by
    obtain ⟨vm2, hW2, st⟩ := hs
    exact ⟨vm2, hW2, fun t' h' => st t' (by rw [hXvm]; exact h')⟩
  clear hXvm
  generalize (((W.setVm vm1).setFrames (.thenThrow self :: base)).pushFrame (.java ((passJ P1.m self (.ref str) 0 [])))) = X at hI1 hXfr hXc hXS hXcur hXW hXlim ⊢
  exact Steps.initThrowableSColdByV p (V := X) (g := (passJ P1.m self (.ref str) 2 [])) (c := P1.code) (self := self) hI1 hexec T L Z LZ M LM hXW (t := W.cur) hXcur (Nn := fun u => u) heapOnly_id (fun _ _ => rfl) (fun _ => rfl) (fun u x y => setCell_twice _ _ _ _) (fun _ => Nat.le_refl _) (u0 := u0) (sen := sen) (msg := .ref str) rfl hXc (fun k hk => by rw [hvm] at hk; cases hk) (fun hk => by rw [hvm] at hk; cases hk) hfree hsel0 hXS hneS hknownS hvU htS
    (cN := (preparedCellV T.toThrowableT cell self u0 sen).withEntry W.cur) (fun _ hu => hu) (fun _ hu => hu) rfl rfl rfl (by simp [preparedCellV, Cell.setSlot, Cell.withEntry]) hskip (fun _ _ hA hW _ hroom _ hrest => L.nativeOff p htr hA hW hroom hrest) hselF hvSen htC htP htM hobjLocals Ps hL hlink (ig := .invokespecial P1.index) (len := 3) [] hXlim
    (by rw [hXfr]; simp only [List.length_cons]; omega)
    (by rw [hXfr, List.tail_cons, stackUse_java, stackUse_light _ _ (fun f hf => by cases hf) rfl]
        show (stackUse base).2 + (2 + 11 + 2 * 0 + operandWords []) + 13 * Ps.length + 42 ≤ lim.2
        simp only [operandWords, List.foldl_nil]
        omega)
    L1.at2

theorem zo_start0 {tb : Tables} {e : Env} {below base : List Frame} {s target : State} (h : zOv s base below) 
    {cls  : String} {cX : ClassId} {kX : Class} {i : Nat}
    (hsoe : (cls == "java/lang/StackOverflowError") = false) (hoom : (cls == "java/lang/OutOfMemoryError") = false)
    (hfound : s.vm.findClass cls = some cX) (hk : s.vm.classes[cX]? = some kX) (hinit : kX.init = .initialized) (hord : kX.kind = .ordinary) (hhot : e.platform.hotImplicitExceptions = false)
    (hbeyond : e.platform.stackBeyond ((((s.setFrames (.throwNew cls none none :: base)).threads[s.cur]?).map (·.stackBytes)).getD 0) (s.setFrames (.throwNew cls none none :: base)).frames = false)
    (hfree : e.platform.vmThrowRoom ≤ e.platform.stackFree ((((s.setFrames (.throwNew cls none none :: base)).threads[s.cur]?).map (·.stackBytes)).getD 0) (s.setFrames (.throwNew cls none none :: base)).frames)
     (hctor : kX.findMethod "<init>" "()V" = some i)
    (hcells : s.heap.size + 1 ≤ e.platform.maxCells) (hslots : s.slotsUsed + kX.instanceTypes.size ≤ e.platform.maxSlots)
    (k : Steps tb e below (doInvoke e ((s.pushCell (freshCell cX kX)).setFrames (.thenThrow s.heap.size :: base)) [] ⟨cX, i⟩ #[.ref s.heap.size]).1 target) :
    Steps tb e below (s.setFrames (.throwNew cls none none :: base)) target := by
  obtain ⟨h1, h2, h3⟩ := h.note (.throwNew cls none none)
  obtain ⟨mid, hu⟩ := h.up
  refine Steps.head h1 ⟨.throwNew cls none none :: mid, by rw [h2, hu]; rfl, by simp, by simp⟩ ?_
  rw [stepThread_throwNew h2, stepThrowNew_plain (s := s.setFrames (.throwNew cls none none :: base)) (c := cX) (k := kX) (i := i) hsoe hoom hfound hk hinit hord hhot hbeyond hfree hctor hcells hslots]
  have e1 : ((s.setFrames (.throwNew cls none none :: base)).pushCell (freshCell cX kX)).setFrames (.thenThrow (s.setFrames (.throwNew cls none none :: base)).heap.size :: base) = (s.pushCell (freshCell cX kX)).setFrames (.thenThrow s.heap.size :: base) := by
    rw [State.pushCell_setFrames, State.setFrames_setFrames]
    rfl
  rw [e1]
  exact k
theorem zo_ctor0 {tb : Tables} [Ours tb] {e : Env} {below base : List Frame} {s₀ W : State} (h : zOv W base below) (hexec : tb.exec = Jvm.exec)
    {H : State → State} (hH : HeapOnly H) (P1 : PassC) (L1 : P1.Links0 e.platform s₀) (hW : s₀.WarmedH W.vm) (a : Addr)
    (hroom : e.platform.stackFull (((W.setFrames (.thenThrow a :: base)).threads[(W.setFrames (.thenThrow a :: base)).cur]?).getD { frames := [] }) (W.setFrames (.thenThrow a :: base)).frames 1 = false)
    (hsup : ∀ vm1, s₀.WarmedH vm1 → At (((W.setVm vm1).setFrames (.thenThrow a :: base)).pushFrame (.java (pass0J P1.m a 0 []))) P1.m P1.code below → ∃ vm2, s₀.WarmedH vm2 ∧ ∀ t' : State,
      Steps tb e below ((H (((W.setVm vm2).setFrames (.thenThrow a :: base)).pushFrame (.java (pass0J P1.m a 0 [])))).setTop (pass0J P1.m a 4 [])) t' →
      Steps tb e below (doInvoke e ((((W.setVm vm1).setFrames (.thenThrow a :: base)).pushFrame (.java (pass0J P1.m a 0 []))).setTop (pass0J P1.m a 1 [])) [] P1.sup #[.ref a]).1 t') :
    ∃ vm', s₀.WarmedH vm' ∧ ∀ target, Steps tb e below ((H (W.setVm vm')).setFrames (.throwing a :: base)) target → Steps tb e below (doInvoke e (W.setFrames (.thenThrow a :: base)) [] P1.m #[.ref a]).1 target := by
  have hmW := hW.methodAt L1.method
  obtain ⟨hI, hfI⟩ := zo_inside h a (pass0J P1.m a 0 []) hmW L1.code (hW.plainAt L1.plain)
  obtain ⟨vm1, hW1, st1⟩ := Steps.invokeInitCold (tb := tb) (s₀ := s₀) (U := ((W.setFrames (.thenThrow a :: base)).pushFrame (.java (pass0J P1.m a 0 [])))) (f := (pass0J P1.m a 1 [.ref a])) (args := []) (rest := []) (a := a) hI hexec L1.at1 hW L1.links L1.right L1.notHandle L1.cls L1.file L1.pool
    L1.supClass L1.supMethod L1.supName L1.supStatic L1.supAbstract L1.supFound L1.supParams.symm rfl
  obtain ⟨vm2, hW2, st2⟩ := hsup vm1 hW1 (hI.setVm (hW.alike.symm.trans hW1.alike))
  refine ⟨vm2, hW2, fun target hrest => ?_⟩
  rw [(doInvoke_java (s := (W.setFrames (.thenThrow a :: base))) (e := e) (acts := []) (args := #[.ref a]) (meth := P1.meth) (code := P1.code) hmW L1.code L1.locks (by rw [L1.locals]; exact hroom)).1, L1.locals]
  show Steps tb e below ((W.setFrames (.thenThrow a :: base)).pushFrame (.java (pass0J P1.m a 0 []))) target
  rw [← State.setTop_self (s := ((W.setFrames (.thenThrow a :: base)).pushFrame (.java (pass0J P1.m a 0 [])))) (State.topJava?_of_frames hfI)]
  jvm_step hI [hexec, L1.at0, Value.isRef]
  refine st1 target (st2 target ?_)
  have O2 := h.vm vm2
  have hm2 := hW2.methodAt L1.method
  have hp2 := hW2.plainAt (U := W.setVm vm2) L1.plain
  obtain ⟨hI2, hf2⟩ := zo_inside O2 a (pass0J P1.m a 0 []) hm2 L1.code hp2
  have hB := hH.at_ hI2
  jvm_step hB [hexec, L1.at4, Op.return_.wp_sem]
  intro acts2
  have hfH : (H (((W.setVm vm2).setFrames (.thenThrow a :: base)).pushFrame (.java (pass0J P1.m a 0 [])))).frames = .java (pass0J P1.m a 0 []) :: .thenThrow a :: base := by rw [hH.frames]; exact hf2
  rw [ret_to (t := H (((W.setVm vm2).setFrames (.thenThrow a :: base)).pushFrame (.java (pass0J P1.m a 0 [])))) (f := (pass0J P1.m a 4 [])) (f₀ := (pass0J P1.m a 0 [])) (below := .thenThrow a :: base) (fs := .thenThrow a :: base) (meth := P1.meth) hfH (by rw [hH.vm]; exact hm2) L1.locks rfl rfl rfl acts2]
  have e3 : (H (((W.setVm vm2).setFrames (.thenThrow a :: base)).pushFrame (.java (pass0J P1.m a 0 [])))).setFrames (.thenThrow a :: base) = (H (W.setVm vm2)).setFrames (.thenThrow a :: base) := by
    rw [State.pushFrame, hH.setFrames, hH.setFrames, State.setFrames_setFrames, State.setFrames_setFrames]
  rw [e3]
  exact zo_thrown (O2.heap hH (a := a) (x := (pass0J P1.m a 0 [])) hm2 L1.code hp2) a hrest
theorem zo_run0 (p : Program) {e : Env} {below base : List Frame} {s₀ W : State} {self : Addr} (h : zOv W base below) (hexec : p.tables.exec = Jvm.exec)
    (T : ThrowableC) (L : T.Links e.platform s₀) (Z : Init0T) (LZ : Z.Laid T.toThrowableT) (hW : s₀.WarmedH W.vm)
    {u0 sen : RefV} {cell cellS : Cell}
    (hcell : W.heap[self]? = some cell) (hvm : cell.vm = .none) (hfree : cell.monitor.owner = none)
    (hsel0 : selectMethod e.platform s₀.vm cell.cls T.fill0 = .method T.fill0)
    (hcellS : W.heap[T.aS]? = some cellS) (hneS : T.aS ≠ self) (hknownS : cellS.vm ≠ .unknown) (hvU : cellS.slots[T.fUnassigned.slot]? = some u0.v)
    (htS : Takes s₀ cell T.fStack u0.v)
    (hskip : SkipFacts T e.platform s₀ (fun u => u) u0 ((preparedCellV T.toThrowableT cell self u0 sen).withEntry W.cur))
    (htr : e.platform.stackTraces = false)
    (hselF : selectMethod e.platform s₀.vm cell.cls T.fill = .method T.fill) (hvSen : cellS.slots[T.fSentinel.slot]? = some sen.v)
    (htC : Takes s₀ cell T.fCause (.ref self)) (htP : Takes s₀ cell T.fSupp sen.v) (hobjLocals : T.codeObj.maxLocals = 1)
    (P1 : PassC) (L1 : P1.Links0 e.platform s₀) (Ps : List PassC) (hL : ∀ P, P ∈ Ps → P.Links0 e.platform s₀) (hlink1 : P1.sup = firstOf (Z.m T.toThrowableT) (Ps.map (·.toPassT))) (hlink : PassesOn (Z.m T.toThrowableT) (Ps.map (·.toPassT)))
    {lim : Nat × Nat} (hlim : e.platform.stackLimits W.me = lim) (hframes : base.length + Ps.length + 4 < lim.1) (hwords : (stackUse base).2 + 13 * Ps.length + 55 ≤ lim.2) :
    ∃ vm', s₀.WarmedH vm' ∧ ∀ target, Steps p.tables e below (((W.setVm vm').setCell self ((((preparedCellV T.toThrowableT cell self u0 sen).withEntry W.cur).setSlot T.fStack.slot u0.v).left)).setFrames (.throwing self :: base)) target →
      Steps p.tables e below (doInvoke e (W.setFrames (.thenThrow self :: base)) [] P1.m #[.ref self]).1 target := by
  have hfN := (h.note (.thenThrow self)).2.1
  have hlimN : e.platform.stackLimits (W.setFrames (.thenThrow self :: base)).me = lim := by rw [State.stackLimits_setFrames]; exact hlim
  have hroom := roomAbove (pl := e.platform) (u := W.setFrames (.thenThrow self :: base)) (vars := 1) (pushed := [.thenThrow self]) (base := base) (free := 13 * Ps.length + 55) (lim := lim) hfN hlimN
    (by simp only [List.length_cons, List.length_nil]; omega) (by omega) (by rw [stackUse_light _ _ (fun f hf => by cases hf) rfl, stackUse_nil]; show 0 + 1 + 11 ≤ _; omega)
  have hN : HeapOnly (fun u : State => u) := heapOnly_id
  refine zo_ctor0 h hexec (H := fun u => u.setCell self ((((preparedCellV T.toThrowableT cell self u0 sen).withEntry W.cur).setSlot T.fStack.slot u0.v).left)) (hN.thenSetCell self _) P1 L1 hW self  hroom (fun vm1 hW1 hI1 => ?_)
  rw [hlink1]
  obtain ⟨-, hXfr⟩ := zo_inside (h.vm vm1) self ((pass0J P1.m self 0 [])) (hW1.methodAt L1.method) L1.code (hW1.plainAt (U := W.setVm vm1) L1.plain)
  have hXvm : ∀ w, (((W.setVm vm1).setFrames (.thenThrow self :: base)).pushFrame (.java ((pass0J P1.m self 0 [])))).setVm w = (((W.setVm w).setFrames (.thenThrow self :: base)).pushFrame (.java ((pass0J P1.m self 0 [])))) := fun w => by rw [State.pushFrame_setVm, State.setFrames_setVm, State.setVm_twice]
  have hXc : (((W.setVm vm1).setFrames (.thenThrow self :: base)).pushFrame (.java ((pass0J P1.m self 0 [])))).heap[self]? = some cell := hcell
  have hXS : (((W.setVm vm1).setFrames (.thenThrow self :: base)).pushFrame (.java ((pass0J P1.m self 0 [])))).heap[T.aS]? = some cellS := hcellS
  have hXcur : (((W.setVm vm1).setFrames (.thenThrow self :: base)).pushFrame (.java ((pass0J P1.m self 0 [])))).cur = W.cur := rfl
  have hXW : s₀.WarmedH (((W.setVm vm1).setFrames (.thenThrow self :: base)).pushFrame (.java ((pass0J P1.m self 0 [])))).vm := hW1
  have hXlim : e.platform.stackLimits (((W.setVm vm1).setFrames (.thenThrow self :: base)).pushFrame (.java ((pass0J P1.m self 0 [])))).me = lim := by rw [State.stackLimits_pushFrame, State.stackLimits_setFrames]; exact hlim
  suffices hs : ∃ vm2, s₀.WarmedH vm2 ∧ ∀ t' : State, Steps p.tables e below ((((((W.setVm vm1).setFrames (.thenThrow self :: base)).pushFrame (.java ((pass0J P1.m self 0 [])))).setVm vm2).setCell self ((((preparedCellV T.toThrowableT cell self u0 sen).withEntry W.cur).setSlot T.fStack.slot u0.v).left)).setTop ((pass0J P1.m self 4 []))) t' →
      Steps p.tables e below (doInvoke e ((((W.setVm vm1).setFrames (.thenThrow self :: base)).pushFrame (.java ((pass0J P1.m self 0 [])))).setTop ((pass0J P1.m self 1 []))) [] (firstOf (Z.m T.toThrowableT) (Ps.map (·.toPassT))) #[.ref self]).1 t' by
    obtain ⟨vm2, hW2, st⟩ := hs
    exact ⟨vm2, hW2, fun t' h' => st t' (by rw [hXvm]; exact h')⟩
  clear hXvm
  generalize (((W.setVm vm1).setFrames (.thenThrow self :: base)).pushFrame (.java ((pass0J P1.m self 0 [])))) = X at hI1 hXfr hXc hXS hXcur hXW hXlim ⊢
  exact Steps.initThrowable0ColdByV p (V := X) (g := (pass0J P1.m self 1 [])) (c := P1.code) (self := self) hI1 hexec T L Z LZ  hXW (t := W.cur) hXcur (Nn := fun u => u) heapOnly_id (fun _ _ => rfl) (fun _ => rfl) (fun u x y => setCell_twice _ _ _ _)  (u0 := u0) (sen := sen)  hXc (fun k hk => by rw [hvm] at hk; cases hk) (fun hk => by rw [hvm] at hk; cases hk) hfree hsel0 hXS hneS hknownS hvU htS
    (cN := (preparedCellV T.toThrowableT cell self u0 sen).withEntry W.cur) (fun _ hu => hu) (fun _ hu => hu) rfl rfl rfl (by simp [preparedCellV, Cell.setSlot, Cell.withEntry]) hskip (fun _ _ hA hW _ hroom _ hrest => L.nativeOff p htr hA hW hroom hrest) hselF hvSen htC htP  hobjLocals Ps hL hlink (ig := .invokespecial P1.index) (len := 3) [] hXlim
    (by rw [hXfr]; simp only [List.length_cons]; omega)
    (by rw [hXfr, List.tail_cons, stackUse_java, stackUse_light _ _ (fun f hf => by cases hf) rfl]
        show (stackUse base).2 + (1 + 11 + 2 * 0 + operandWords []) + 13 * Ps.length + 41 ≤ lim.2
        simp only [operandWords, List.foldl_nil]
        omega)
    L1.at1
