/-! ===== a throw noted over a native's frame ===== -/
theorem zo_step {tb : Tables} {e : Env} {s : State} {a : Addr} {f : NFrame} {r : List Frame} (hf : s.frames = .throwing a :: .native f :: r) (haw : f.awaiting = false) (hl : f.locked = none) :
    (stepThread tb e s).1 = s.setFrames (.throwing a :: r) := by
  unfold stepThread
  simp only [hf]
  unfold stepThrowing
  simp only [haw, Bool.false_eq_true, if_false, hl]
  unfold vmDo
  generalize hr : Sem.go _ e false _ s = res
  obtain ⟨as, rfl, -⟩ := Sem.eq_ok_of hr (a := true) (s' := s) (acts' := []) (by simp [leaveIfLocked, unmarked, Action.isMark])
  rfl
theorem zo_leave {tb : Tables} {e : Env} {below : List Frame} {u target : State} {a : Addr} {f : NFrame} {r : List Frame} (h : zOv u r below) (haw : f.awaiting = false) (hl : f.locked = none) (k : Steps tb e below (u.setFrames (.throwing a :: r)) target) :
    Steps tb e below (u.setFrames (.throwing a :: .native f :: r)) target := by
  obtain ⟨mid, hm⟩ := h.up
  have hf : (u.setFrames (.throwing a :: .native f :: r)).frames = .throwing a :: .native f :: r := State.frames_setFrames _ h.cur
  refine Steps.head ⟨h.go.1, by simpa using h.go.2.1, by simpa using h.go.2.2⟩ ⟨.throwing a :: .native f :: mid, by rw [hf, hm]; rfl, by simp, by simp⟩ ?_
  rw [zo_step hf haw hl, State.setFrames_setFrames]
  exact k
set_option maxHeartbeats 1000000 in
theorem zo_atS {p : Program} {l : Launch} {e : Env} {R : Room} {s : State} {m₀ : MethodId} {args : Array Value} {below : List Frame} {meth : Method} {c : Code} {W : State} {locs : List Loc} {cells slots : Nat}
    (X : Stand p l e R s m₀ args below meth c W locs cells slots) (hexec : p.tables.exec = Jvm.exec) (htr : e.platform.stackTraces = false) {cls : String} {names : List String} {text : String}
    (hcls : Bundle.fit cls = true) (hnames : ∀ n ∈ names, Bundle.fit n = true) (hsoe : (cls == "java/lang/StackOverflowError") = false) (hoom : (cls == "java/lang/OutOfMemoryError") = false)
    (h : ∀ a ∈ Bundle.messageArmAtoms cls names, a.before args s = true)
    (hlocs : ∀ x ∈ locs, ∀ cell, s.heap[x.base]? = some cell → cell.vm.isStatics = false)
    (htext : (text == notModelled) = false) (hlimit : ¬ (stringBytes (stringToUtf16 text)).size > e.platform.arrayLengthLimit) (hheap : ¬ (stringBytes (stringToUtf16 text)).size * componentBytes .byte > e.platform.maxHeapBytes)
    {nf : NFrame} (hn1 : nf.awaiting = false) (hn2 : nf.locked = none) (hn3 : nf.words = 0) {g : JFrame} (hg : g.method = m₀) (hsize : g.locals.size = c.maxLocals)
    (hRframes : names.length + 5 < R.frames) (hRlocals : 2 * g.monitorRoom + (g.stack.map fun v => v.category).sum + 10240 ≤ R.locals) (hshort : 13 * names.length + 55 ≤ 10240)
    (hRcells : cells + 3 ≤ R.cells) (hRslots : slots + ((stringBytes (stringToUtf16 text)).size + 4 + 6) ≤ R.slots) (hlocks : meth.locks = false) :
    ∃ (S : State) (q : Addr) (ce : Cell), (∀ target, Steps p.tables e below ((S.setTop g).pushFrame (.throwing q)) target → Steps p.tables e below (((W.setTop g).pushFrame (.native nf)).pushFrame (.throwNew cls (some text) none)) target) ∧
      Stand p l e R s m₀ args below meth c S locs (cells + 3) (slots + ((stringBytes (stringToUtf16 text)).size + 4 + 6)) ∧ S.heap[q]? = some ce ∧ s.vm.findClass cls = some ce.cls ∧ ce.vm = .none := by
  have howns : e.platform.frameOwnsMonitors = true := by rw [X.admits.platform]
  have hfin : e.platform.finalization = false := by rw [X.admits.platform]
  have hpl : e.platform.magicAccessors = ({} : Platform).magicAccessors := by rw [X.admits.platform]
  have a : ∀ x, x ∈ Bundle.messageArmAtoms cls names → x.holds args s none s [] = true := fun x hx => h x hx
  obtain ⟨T, Z0, L, -, Y⟩ := ThrowableC.of_atoms (args := args) howns hfin hpl (fun x hx => h x (by simp [Bundle.messageArmAtoms, hx]))
  obtain ⟨Z, M, LZ, LM, hnZ⟩ := Init0T.ofS_atoms (args := args) hpl L Y (fun x hx => h x (by simp [Bundle.messageArmAtoms, hx]))
  obtain ⟨P1, Ps, hlen, L1, hL, hP1m, hlink1, hlink⟩ := Bundle.chainS (args := args) hpl hnZ names cls hcls hnames (fun x hx => h x (by simp [Bundle.messageArmAtoms, hx]))
  obtain ⟨Zs, LZs, hn4, hfitv, hfitc⟩ := StringT.of_atoms (args := args) (fun x hx => h x (by simp [Bundle.messageArmAtoms, hx]))
  have hfound : s.vm.findClass cls = some P1.m.cls := findClass_of_methodNamed hP1m
  obtain ⟨c1, kX, hc1, hk, hord, -, -, hn6⟩ := Cond.instantiable_spec (a (.instantiable cls 6) (by simp [Bundle.messageArmAtoms]))
  cases Option.some.inj (hc1.symm.trans hfound)
  have hinit := Cond.initialized_spec hfound hk (a (.initialized cls) (by simp [Bundle.messageArmAtoms]))
  have hctor : kX.findMethod "<init>" "(Ljava/lang/String;)V" = some P1.m.idx := findMethod_of_methodNamed hP1m hk
  have hsel0 : selectMethod e.platform s.vm P1.m.cls T.fill0 = .method T.fill0 := by
    obtain ⟨c2, r2, m2, q1, q2, q3, q4, -⟩ := Cond.selects_spec (a (.selects cls Bundle.tFill0 Bundle.tFill0) (by simp [Bundle.messageArmAtoms]))
    cases Option.some.inj (q1.symm.trans hfound)
    cases Option.some.inj (q2.symm.trans (State.methodFound?_of_named Y.fill0 (by decide)))
    cases Option.some.inj (q3.symm.trans Y.fill0)
    rw [Launch.admits_selectMethod X.admits]; exact q4
  have hselF : selectMethod e.platform s.vm P1.m.cls T.fill = .method T.fill := by
    obtain ⟨c2, r2, m2, q1, q2, q3, q4, -⟩ := Cond.selects_spec (a (.selects cls Bundle.tFill Bundle.tFill) (by simp [Bundle.messageArmAtoms]))
    cases Option.some.inj (q1.symm.trans hfound)
    cases Option.some.inj (q2.symm.trans (State.methodFound?_of_named Y.fill (by decide)))
    cases Option.some.inj (q3.symm.trans Y.fill)
    rw [Launch.admits_selectMethod X.admits]; exact q4
  obtain ⟨cellS0, hcS0, hiss⟩ := Y.statics
  obtain ⟨u0, hu0⟩ := Cond.staticRefV Y.unassigned L.unassignedStatic L.statics hcS0 hiss (a (.isRef (.static Bundle.tN "UNASSIGNED_STACK" Bundle.steD)) (by simp [Bundle.messageArmAtoms]))
  obtain ⟨sen, hsen⟩ := Cond.staticRefV Y.sentinel L.sentinelStatic L.statics hcS0 hiss (a (.isRef (.static Bundle.tN "SUPPRESSED_SENTINEL" Bundle.listD)) (by simp [Bundle.messageArmAtoms]))
  obtain ⟨ci198, i198, fB, hk198, hg198, ha198, hsB, -, hnB, htB, hffB⟩ := Cond.ownField (t := .object "java/lang/Object") Y.found L.cls (by decide +kernel) (a (.fieldLink Bundle.tN 198 Bundle.tN "backtrace" "Ljava/lang/Object;") (by simp [Bundle.messageArmAtoms])) (a (.lays Bundle.tN Bundle.tN "backtrace" "Ljava/lang/Object;") (by simp [Bundle.messageArmAtoms])) e.platform hpl
  obtain ⟨cellS, hcS', heS, -, hkeep⟩ := X.same.2.2.2.2.2 T.aS cellS0 hcS0
  have hcellS : W.heap[T.aS]? = some cellS := hcS'
  have hout' : ∀ i, (⟨T.aS, i⟩ : Loc) ∉ locs := fun i hmem => by
    have := hlocs _ hmem cellS0 hcS0
    rw [hiss] at this; cases this
  have hknownS : cellS.vm ≠ .unknown := by
    rw [heS]; intro hu
    rw [show cellS0.vm = .unknown from hu] at hiss
    cases hiss
  have hvU : cellS.slots[T.fUnassigned.slot]? = some u0.v := by rw [hkeep _ (hout' _)]; exact hu0
  have hvSen : cellS.slots[T.fSentinel.slot]? = some sen.v := by rw [hkeep _ (hout' _)]; exact hsen
  obtain ⟨iM, hffM⟩ := Y.msg
  obtain ⟨tyC, dC, hdC, hdnC⟩ := Cond.laysAt hfound hk Y.cause (a (.lays cls Bundle.tN "cause" "Ljava/lang/Throwable;") (by simp [Bundle.messageArmAtoms]))
  obtain ⟨tyS, dS, hdS, hdnS⟩ := Cond.laysAt hfound hk Y.stack (a (.lays cls Bundle.tN "stackTrace" Bundle.steD) (by simp [Bundle.messageArmAtoms]))
  obtain ⟨tyP, dP, hdP, hdnP⟩ := Cond.laysAt hfound hk Y.supp (a (.lays cls Bundle.tN "suppressedExceptions" Bundle.listD) (by simp [Bundle.messageArmAtoms]))
  obtain ⟨tyM, dM, hdM, hdnM⟩ := Cond.laysAt hfound hk hffM (a (.lays cls Bundle.tN "detailMessage" "Ljava/lang/String;") (by simp [Bundle.messageArmAtoms]))
  obtain ⟨tyB, dB, hdB, hdnB⟩ := Cond.laysAt hfound hk hffB (a (.lays cls Bundle.tN "backtrace" "Ljava/lang/Object;") (by simp [Bundle.messageArmAtoms]))
  have bC := Cond.laysApart hdB hdC hdnB hdnC (by rw [hnB, Y.causeName]; decide)
  have bS := Cond.laysApart hdB hdS hdnB hdnS (by rw [hnB, Y.stackName]; decide)
  have bP := Cond.laysApart hdB hdP hdnB hdnP (by rw [hnB, Y.suppName]; decide)
  have hbk : ((preparedCellV T.toThrowableT (freshCell P1.m.cls kX) (W.heap.size + 2) u0 sen).withEntry W.cur).slots[fB.slot]? = some .null := by
    have := fresh_default (c := P1.m.cls) tyB
    rw [htB] at this
    simpa [preparedCellV, Cell.setSlot, Cell.withEntry, Array.getElem?_setIfInBounds, bC, bS, bP, bC.symm, bS.symm, bP.symm, defaultValue] using this
  have tkC := Takes.of_laid (v := .ref (W.heap.size + 2)) hk hord tyC (by rw [Y.causeType]; rfl)
  have tkS := Takes.of_laid (v := u0.v) hk hord tyS (by rw [Y.stackType]; exact fits_refV_array _ u0)
  have tkP := Takes.of_laid (v := sen.v) hk hord tyP (by rw [Y.suppType]; exact fits_refV_object _ sen)
  have tkM := Takes.of_laid (v := .ref (W.heap.size + 1)) hk hord tyM (by rw [Y.msgType]; rfl)
  have hskip : SkipFacts T e.platform s (fun u => u) u0 ((preparedCellV T.toThrowableT (freshCell P1.m.cls kX) (W.heap.size + 2) u0 sen).withEntry W.cur) := ⟨{ ci198 := ci198, i198 := i198, fBack := fB }, ⟨hk198, hg198, ha198, hsB⟩, hbk, fun _ _ => rfl⟩
  obtain ⟨g₀, hfr⟩ := X.frames_eq
  have hcur : W.cur < W.threads.size := State.cur_lt_of_frames hfr
  have hO : zOv W (.native nf :: .java g :: below) below := ⟨⟨X.here.running, X.here.runnable, X.here.alone⟩, hcur, ⟨[.native nf, .java g], rfl⟩⟩
  have hO2 : zOv W (.java g :: below) below := ⟨⟨X.here.running, X.here.runnable, X.here.alone⟩, hcur, ⟨[.java g], rfl⟩⟩
  have hW0 : ((W.setTop g).pushFrame (.native nf)).pushFrame (.throwNew cls (some text) none) = W.setFrames (.throwNew cls (some text) none :: .native nf :: .java g :: below) := by
    have e1 : (W.setTop g).pushFrame (.native nf) = W.setFrames (.native nf :: .java g :: below) := by
      rw [State.pushFrame, State.frames_setTop _ hfr, State.setTop_of_frames _ hfr, State.setFrames_setFrames]
    rw [e1, State.pushFrame, State.frames_setFrames _ hcur, State.setFrames_setFrames]
  have hus : stackUse (.native nf :: .java g :: below) = ((stackUse (.java g :: below)).1 + 1, (stackUse (.java g :: below)).2) := stackUse_light _ _ (fun f hf => by cases hf) hn3
  have hA := X.stackAbove hsize (K := 10240) hRlocals
  rw [X.tail] at hA
  have hb : ((((W.setFrames (.throwNew cls (some text) none :: .native nf :: .java g :: below)).threads[W.cur]?).map (·.stackBytes)).getD 0) = W.me.stackBytes := by
    rw [← State.stackBytes_setFrames W (.throwNew cls (some text) none :: .native nf :: .java g :: below)]
    exact State.stackBytes_me (W.setFrames (.throwNew cls (some text) none :: .native nf :: .java g :: below))
  have hlimit9 : (e.platform.stackLimits W.me).2 = (e.platform.limitsFor W.me.stackBytes).2 := rfl
  have hbf : e.platform.stackBeyond ((((W.setFrames (.throwNew cls (some text) none :: .native nf :: .java g :: below)).threads[W.cur]?).map (·.stackBytes)).getD 0) (W.setFrames (.throwNew cls (some text) none :: .native nf :: .java g :: below)).frames = false ∧
      e.platform.vmThrowRoom ≤ e.platform.stackFree ((((W.setFrames (.throwNew cls (some text) none :: .native nf :: .java g :: below)).threads[W.cur]?).map (·.stackBytes)).getD 0) (W.setFrames (.throwNew cls (some text) none :: .native nf :: .java g :: below)).frames := by
    rw [hb, State.frames_setFrames _ hcur, Launch.admits_vmThrowRoom X.admits]
    unfold Platform.stackBeyond Platform.stackFree
    rw [stackUse_light _ _ (fun f hf => by cases hf) rfl, hus]
    exact ⟨decide_eq_false (by omega), by omega⟩
  obtain ⟨hbeyond, hfreeW⟩ := hbf
  have hfr' : (Frame.native nf :: .java g :: below).length + Ps.length + 4 < (e.platform.stackLimits W.me).1 := by
    have := X.framesAbove hRframes
    rw [hfr] at this
    simp only [List.length_cons] at this ⊢
    omega
  have hwd' : (stackUse (.native nf :: .java g :: below)).2 + 13 * Ps.length + 55 ≤ (e.platform.stackLimits W.me).2 := by
    rw [hus]
    have : 13 * Ps.length + 55 ≤ 10240 := by omega
    show (stackUse (.java g :: below)).2 + 13 * Ps.length + 55 ≤ _
    omega
  have hslots : W.slotsUsed + (stringBytes (stringToUtf16 text)).size + Zs.kS.instanceTypes.size + kX.instanceTypes.size ≤ e.platform.maxSlots := by
    have := X.slotsAbove hRslots
    rw [hn4, hn6]
    omega
  obtain ⟨kX', hk', he'⟩ := X.warmed.alike.2.2 _ _ hk
  have hty : kX'.instanceTypes = kX.instanceTypes := by rw [he']
  have hfresh : freshCell P1.m.cls kX' = (freshCell P1.m.cls kX) := by
    show ({ cls := P1.m.cls, slots := kX'.instanceTypes.map defaultValue, vm := .none } : Cell) = _
    rw [hty]
  obtain ⟨kS', kB', LZ', htyS⟩ := LZs.warmer X.warmed.alike
  have hsame9 : withThrown W { Zs with kS := kS', kB := kB' } text P1.m.cls kX' = (withThrown W Zs text P1.m.cls kX) := by
    rw [← withThrown_warmer W Zs (kB' := kB') htyS text P1.m.cls kX]
    show (withString W _ _ _ _ _ _).pushCell (freshCell P1.m.cls kX') = (withString W _ _ _ _ _ _).pushCell (freshCell P1.m.cls kX)
    rw [hfresh]
  have hfs : W.fitsSlot = s.fitsSlot := (show W.fitsSlot = (s.setVm W.vm).fitsSlot from rfl).trans (State.fitsSlot_setVm X.warmed.alike)
  obtain ⟨w1, w2, -, w4, w5, -, w7⟩ := withThrown_facts e.platform W Zs text P1.m.cls kX
  have hltS : T.aS < W.heap.size := (Array.getElem?_eq_some_iff.mp hcellS).1
  have hOT : zOv (withThrown W Zs text P1.m.cls kX) (.native nf :: .java g :: below) below := (((((hO.cell _).put _ _).cell _).put _ _).put _ _).cell _
  have hcurT : (withThrown W Zs text P1.m.cls kX).cur = W.cur := by simp [withThrown, withString]
  obtain ⟨vm', hW', st0⟩ := zo_runS p (W := (withThrown W Zs text P1.m.cls kX)) (self := (W.heap.size + 2)) (str := (W.heap.size + 1)) hOT hexec T L Z LZ M LM (by rw [w1]; exact X.warmed) (u0 := u0) (sen := sen) w4 rfl rfl hsel0 ((w5 _ hltS).trans hcellS) (Nat.ne_of_lt (Nat.lt_of_lt_of_le hltS (Nat.le_add_right _ 2))) hknownS hvU tkS (by rw [hcurT]; exact hskip) htr hselF hvSen tkC tkP tkM Y.objLocals P1 L1 Ps hL hlink1 hlink (lim := e.platform.stackLimits W.me) w7 hfr' hwd'
  rw [plainBareV_eq T.toThrowableT (W.heap.size + 2) u0 sen (.ref (W.heap.size + 1)) _ rfl rfl] at st0
  have st : ∀ target, Steps p.tables e below ((((withThrown W Zs text P1.m.cls kX).setVm vm').setCell (W.heap.size + 2) (plainBareV T.toThrowableT (freshCell P1.m.cls kX) (W.heap.size + 2) u0 sen (.ref (W.heap.size + 1)))).setFrames (.throwing (W.heap.size + 2) :: .java g :: below)) target → Steps p.tables e below (((W.setTop g).pushFrame (.native nf)).pushFrame (.throwNew cls (some text) none)) target := fun target hrest => by
    rw [hW0]
    refine zo_startS hO { Zs with kS := kS', kB := kB' } LZ' (cls := cls) (m := text) (cX := P1.m.cls) (kX := kX') (i := P1.m.idx) hsoe hoom (by rw [X.warmed.alike.findClass]; exact hfound) hk' (by rw [he']; exact hinit) (by rw [he']; exact hord)
      (Launch.admits_hotImplicitExceptions X.admits) hbeyond hfreeW htext (by rw [he']; exact hctor) hlimit hheap (X.cellsAbove hRcells) (by show W.slotsUsed + _ + kS'.instanceTypes.size + kX'.instanceTypes.size ≤ _; rw [htyS, hty]; exact hslots) (by rw [hfs]; exact hfitv _) (by rw [hfs]; exact hfitc _) ?_
    rw [hsame9]
    refine st0 _ (zo_leave ?_ hn1 hn2 hrest)
    exact ⟨((hOT.vm vm').put _ _).go, ((hOT.vm vm').put _ _).cur, hO2.up⟩
  obtain ⟨-, -, w3, -, -, -, -⟩ := withThrown_facts e.platform W Zs text P1.m.cls kX
  have X3 := ((X.pushed (bytesOf Zs.cB (stringToUtf16 text))).pushed (stringAt Zs.cS Zs.kS Zs.fv Zs.fc (stringToUtf16 text) W.heap.size)).pushed (freshCell P1.m.cls kX)
  rw [← withString_eq] at X3
  have X4 := X3.noted hW'
  have ha : (W.heap.size + 2) < ((withThrown W Zs text P1.m.cls kX).setVm vm').heap.size := by show _ < (withThrown W Zs text P1.m.cls kX).heap.size; rw [w3]; omega
  have hcell : ((withThrown W Zs text P1.m.cls kX).setVm vm').heap[(W.heap.size + 2)]? = some (freshCell P1.m.cls kX) := w4
  have X5 := ((((X4.stored hcell T.fCause.slot (.ref (W.heap.size + 2))).storedAgain ha T.fStack.slot u0.v).storedAgain ha T.fSupp.slot sen.v).storedAgain ha T.fStack.slot u0.v).storedAgain ha T.fMsg.slot (.ref (W.heap.size + 1))
  obtain ⟨g₁, hfrM⟩ := X5.frames_eq
  have hU : ((((withThrown W Zs text P1.m.cls kX).setVm vm').setCell (W.heap.size + 2) (plainBareV T.toThrowableT (freshCell P1.m.cls kX) (W.heap.size + 2) u0 sen (.ref (W.heap.size + 1)))).setTop g).pushFrame (.throwing (W.heap.size + 2)) = (((withThrown W Zs text P1.m.cls kX).setVm vm').setCell (W.heap.size + 2) (plainBareV T.toThrowableT (freshCell P1.m.cls kX) (W.heap.size + 2) u0 sen (.ref (W.heap.size + 1)))).setFrames (.throwing (W.heap.size + 2) :: .java g :: below) := by
    rw [State.pushFrame, State.frames_setTop _ hfrM, State.setTop_of_frames _ hfrM, State.setFrames_setFrames]
  have b1 : (bytesOf Zs.cB (stringToUtf16 text)).slots.size = (stringBytes (stringToUtf16 text)).size := by
    rw [(Cell.writeAll_facts _ _).2.2]; simp [bytes0]
  have b2 : (stringAt Zs.cS Zs.kS Zs.fv Zs.fc (stringToUtf16 text) W.heap.size).slots.size = 4 := by simp [string0, Cell.setSlot, hn4]
  have b3 : (freshCell P1.m.cls kX).slots.size = 6 := by simp [hn6]
  rw [b1, b2, b3] at X5
  have e9 : slots + (stringBytes (stringToUtf16 text)).size + 4 + 6 = slots + ((stringBytes (stringToUtf16 text)).size + 4 + 6) := by omega
  rw [e9] at X5
  simp only [List.append_assoc, List.cons_append, List.nil_append] at X5
  refine ⟨((withThrown W Zs text P1.m.cls kX).setVm vm').setCell (W.heap.size + 2) (plainBareV T.toThrowableT (freshCell P1.m.cls kX) (W.heap.size + 2) u0 sen (.ref (W.heap.size + 1))), W.heap.size + 2, _, fun target ht => st _ (by rw [← hU]; exact ht),
    X5.forget (fun y hy => ?_), heapAt_setCell_self _ ha, hfound, rfl⟩
  simp only [List.mem_cons, List.not_mem_nil, or_false] at hy
  have hge : s.heap.size ≤ W.heap.size := X.same.2.1
  rcases hy with rfl | rfl | rfl | rfl | rfl <;> exact Nat.le_trans hge (Nat.le_add_right _ 2)
/-- the words of the arm without a text -/
def zo_wd (X : String) (names : List String) : List Cond := Bundle.throwableAtoms ++ Bundle.chain0Atoms X names ++
  [.instantiable X 6, .castable X X, .selects X Bundle.tFill0 Bundle.tFill0, .selects X Bundle.tFill Bundle.tFill,
   .lays X Bundle.tN "cause" "Ljava/lang/Throwable;", .lays X Bundle.tN "stackTrace" Bundle.steD, .lays X Bundle.tN "suppressedExceptions" Bundle.listD, .lays X Bundle.tN "detailMessage" "Ljava/lang/String;",
   .isRef (.static Bundle.tN "UNASSIGNED_STACK" Bundle.steD), .isRef (.static Bundle.tN "SUPPRESSED_SENTINEL" Bundle.listD),
   .fieldLink Bundle.tN 198 Bundle.tN "backtrace" "Ljava/lang/Object;", .lays Bundle.tN Bundle.tN "backtrace" "Ljava/lang/Object;", .lays X Bundle.tN "backtrace" "Ljava/lang/Object;"]
set_option maxHeartbeats 1000000 in
theorem zo_at0 {p : Program} {l : Launch} {e : Env} {R : Room} {s : State} {m₀ : MethodId} {args : Array Value} {below : List Frame} {meth : Method} {c : Code} {W : State} {locs : List Loc} {cells slots : Nat}
    (X : Stand p l e R s m₀ args below meth c W locs cells slots) (hexec : p.tables.exec = Jvm.exec) (htr : e.platform.stackTraces = false) {cls : String} {names : List String}
    (hcls : Bundle.fit cls = true) (hnames : ∀ n ∈ names, Bundle.fit n = true) (hsoe : (cls == "java/lang/StackOverflowError") = false) (hoom : (cls == "java/lang/OutOfMemoryError") = false)
    (h : ∀ a ∈ zo_wd cls names, a.before args s = true) (hini0 : (Cond.initialized cls).before args s = true)
    (hlocs : ∀ x ∈ locs, ∀ cell, s.heap[x.base]? = some cell → cell.vm.isStatics = false)
    {nf : NFrame} (hn1 : nf.awaiting = false) (hn2 : nf.locked = none) (hn3 : nf.words = 0) {g : JFrame} (hg : g.method = m₀) (hsize : g.locals.size = c.maxLocals)
    (hRframes : names.length + 5 < R.frames) (hRlocals : 2 * g.monitorRoom + (g.stack.map fun v => v.category).sum + 10240 ≤ R.locals) (hshort : 13 * names.length + 55 ≤ 10240)
    (hRcells : cells + 1 ≤ R.cells) (hRslots : slots + 6 ≤ R.slots) (hlocks : meth.locks = false) :
    ∃ (S : State) (q : Addr) (ce : Cell), (∀ target, Steps p.tables e below ((S.setTop g).pushFrame (.throwing q)) target → Steps p.tables e below (((W.setTop g).pushFrame (.native nf)).pushFrame (.throwNew cls none none)) target) ∧
      Stand p l e R s m₀ args below meth c S locs (cells + 1) (slots + 6) ∧ S.heap[q]? = some ce ∧ s.vm.findClass cls = some ce.cls ∧ ce.vm = .none := by
  have howns : e.platform.frameOwnsMonitors = true := by rw [X.admits.platform]
  have hfin : e.platform.finalization = false := by rw [X.admits.platform]
  have hpl : e.platform.magicAccessors = ({} : Platform).magicAccessors := by rw [X.admits.platform]
  have a : ∀ x, x ∈ zo_wd cls names → x.holds args s none s [] = true := fun x hx => h x hx
  obtain ⟨T, Z, L, LZ, Y⟩ := ThrowableC.of_atoms (args := args) howns hfin hpl (fun x hx => h x (by simp [zo_wd, hx]))
  obtain ⟨P1, Ps, hlen, L1, hL, hP1m, hlink1, hlink⟩ := Bundle.chain0 (args := args) hpl Y.init0 names cls hcls hnames (fun x hx => h x (by simp [zo_wd, hx]))
  have hfound : s.vm.findClass cls = some P1.m.cls := findClass_of_methodNamed hP1m
  obtain ⟨c1, kX, hc1, hk, hord, -, -, hn6⟩ := Cond.instantiable_spec (a (.instantiable cls 6) (by simp [zo_wd]))
  cases Option.some.inj (hc1.symm.trans hfound)
  have hinit := Cond.initialized_spec hfound hk hini0
  have hctor : kX.findMethod "<init>" "()V" = some P1.m.idx := findMethod_of_methodNamed hP1m hk
  have hsel0 : selectMethod e.platform s.vm P1.m.cls T.fill0 = .method T.fill0 := by
    obtain ⟨c2, r2, m2, q1, q2, q3, q4, -⟩ := Cond.selects_spec (a (.selects cls Bundle.tFill0 Bundle.tFill0) (by simp [zo_wd]))
    cases Option.some.inj (q1.symm.trans hfound)
    cases Option.some.inj (q2.symm.trans (State.methodFound?_of_named Y.fill0 (by decide)))
    cases Option.some.inj (q3.symm.trans Y.fill0)
    rw [Launch.admits_selectMethod X.admits]; exact q4
  have hselF : selectMethod e.platform s.vm P1.m.cls T.fill = .method T.fill := by
    obtain ⟨c2, r2, m2, q1, q2, q3, q4, -⟩ := Cond.selects_spec (a (.selects cls Bundle.tFill Bundle.tFill) (by simp [zo_wd]))
    cases Option.some.inj (q1.symm.trans hfound)
    cases Option.some.inj (q2.symm.trans (State.methodFound?_of_named Y.fill (by decide)))
    cases Option.some.inj (q3.symm.trans Y.fill)
    rw [Launch.admits_selectMethod X.admits]; exact q4
  obtain ⟨cellS0, hcS0, hiss⟩ := Y.statics
  obtain ⟨u0, hu0⟩ := Cond.staticRefV Y.unassigned L.unassignedStatic L.statics hcS0 hiss (a (.isRef (.static Bundle.tN "UNASSIGNED_STACK" Bundle.steD)) (by simp [zo_wd]))
  obtain ⟨sen, hsen⟩ := Cond.staticRefV Y.sentinel L.sentinelStatic L.statics hcS0 hiss (a (.isRef (.static Bundle.tN "SUPPRESSED_SENTINEL" Bundle.listD)) (by simp [zo_wd]))
  obtain ⟨ci198, i198, fB, hk198, hg198, ha198, hsB, -, hnB, htB, hffB⟩ := Cond.ownField (t := .object "java/lang/Object") Y.found L.cls (by decide +kernel) (a (.fieldLink Bundle.tN 198 Bundle.tN "backtrace" "Ljava/lang/Object;") (by simp [zo_wd])) (a (.lays Bundle.tN Bundle.tN "backtrace" "Ljava/lang/Object;") (by simp [zo_wd])) e.platform hpl
  obtain ⟨cellS, hcS', heS, -, hkeep⟩ := X.same.2.2.2.2.2 T.aS cellS0 hcS0
  have hcellS : W.heap[T.aS]? = some cellS := hcS'
  have hout' : ∀ i, (⟨T.aS, i⟩ : Loc) ∉ locs := fun i hmem => by
    have := hlocs _ hmem cellS0 hcS0
    rw [hiss] at this; cases this
  have hknownS : cellS.vm ≠ .unknown := by
    rw [heS]; intro hu
    rw [show cellS0.vm = .unknown from hu] at hiss
    cases hiss
  have hvU : cellS.slots[T.fUnassigned.slot]? = some u0.v := by rw [hkeep _ (hout' _)]; exact hu0
  have hvSen : cellS.slots[T.fSentinel.slot]? = some sen.v := by rw [hkeep _ (hout' _)]; exact hsen
  obtain ⟨tyC, dC, hdC, hdnC⟩ := Cond.laysAt hfound hk Y.cause (a (.lays cls Bundle.tN "cause" "Ljava/lang/Throwable;") (by simp [zo_wd]))
  obtain ⟨tyS, dS, hdS, hdnS⟩ := Cond.laysAt hfound hk Y.stack (a (.lays cls Bundle.tN "stackTrace" Bundle.steD) (by simp [zo_wd]))
  obtain ⟨tyP, dP, hdP, hdnP⟩ := Cond.laysAt hfound hk Y.supp (a (.lays cls Bundle.tN "suppressedExceptions" Bundle.listD) (by simp [zo_wd]))
  obtain ⟨tyB, dB, hdB, hdnB⟩ := Cond.laysAt hfound hk hffB (a (.lays cls Bundle.tN "backtrace" "Ljava/lang/Object;") (by simp [zo_wd]))
  have bC := Cond.laysApart hdB hdC hdnB hdnC (by rw [hnB, Y.causeName]; decide)
  have bS := Cond.laysApart hdB hdS hdnB hdnS (by rw [hnB, Y.stackName]; decide)
  have bP := Cond.laysApart hdB hdP hdnB hdnP (by rw [hnB, Y.suppName]; decide)
  have hbk : ((preparedCellV T.toThrowableT (freshCell P1.m.cls kX) W.heap.size u0 sen).withEntry W.cur).slots[fB.slot]? = some .null := by
    have := fresh_default (c := P1.m.cls) tyB
    rw [htB] at this
    simpa [preparedCellV, Cell.setSlot, Cell.withEntry, Array.getElem?_setIfInBounds, bC, bS, bP, bC.symm, bS.symm, bP.symm, defaultValue] using this
  have tkC := Takes.of_laid (v := .ref W.heap.size) hk hord tyC (by rw [Y.causeType]; rfl)
  have tkS := Takes.of_laid (v := u0.v) hk hord tyS (by rw [Y.stackType]; exact fits_refV_array _ u0)
  have tkP := Takes.of_laid (v := sen.v) hk hord tyP (by rw [Y.suppType]; exact fits_refV_object _ sen)
  have hskip : SkipFacts T e.platform s (fun u => u) u0 ((preparedCellV T.toThrowableT (freshCell P1.m.cls kX) W.heap.size u0 sen).withEntry W.cur) := ⟨{ ci198 := ci198, i198 := i198, fBack := fB }, ⟨hk198, hg198, ha198, hsB⟩, hbk, fun _ _ => rfl⟩
  obtain ⟨g₀, hfr⟩ := X.frames_eq
  have hcur : W.cur < W.threads.size := State.cur_lt_of_frames hfr
  have hO : zOv W (.native nf :: .java g :: below) below := ⟨⟨X.here.running, X.here.runnable, X.here.alone⟩, hcur, ⟨[.native nf, .java g], rfl⟩⟩
  have hO2 : zOv W (.java g :: below) below := ⟨⟨X.here.running, X.here.runnable, X.here.alone⟩, hcur, ⟨[.java g], rfl⟩⟩
  have hW0 : ((W.setTop g).pushFrame (.native nf)).pushFrame (.throwNew cls none none) = W.setFrames (.throwNew cls none none :: .native nf :: .java g :: below) := by
    have e1 : (W.setTop g).pushFrame (.native nf) = W.setFrames (.native nf :: .java g :: below) := by
      rw [State.pushFrame, State.frames_setTop _ hfr, State.setTop_of_frames _ hfr, State.setFrames_setFrames]
    rw [e1, State.pushFrame, State.frames_setFrames _ hcur, State.setFrames_setFrames]
  have hus : stackUse (.native nf :: .java g :: below) = ((stackUse (.java g :: below)).1 + 1, (stackUse (.java g :: below)).2) := stackUse_light _ _ (fun f hf => by cases hf) hn3
  have hA := X.stackAbove hsize (K := 10240) hRlocals
  rw [X.tail] at hA
  have hb : ((((W.setFrames (.throwNew cls none none :: .native nf :: .java g :: below)).threads[W.cur]?).map (·.stackBytes)).getD 0) = W.me.stackBytes := by
    rw [← State.stackBytes_setFrames W (.throwNew cls none none :: .native nf :: .java g :: below)]
    exact State.stackBytes_me (W.setFrames (.throwNew cls none none :: .native nf :: .java g :: below))
  have hlimit9 : (e.platform.stackLimits W.me).2 = (e.platform.limitsFor W.me.stackBytes).2 := rfl
  have hbf : e.platform.stackBeyond ((((W.setFrames (.throwNew cls none none :: .native nf :: .java g :: below)).threads[W.cur]?).map (·.stackBytes)).getD 0) (W.setFrames (.throwNew cls none none :: .native nf :: .java g :: below)).frames = false ∧
      e.platform.vmThrowRoom ≤ e.platform.stackFree ((((W.setFrames (.throwNew cls none none :: .native nf :: .java g :: below)).threads[W.cur]?).map (·.stackBytes)).getD 0) (W.setFrames (.throwNew cls none none :: .native nf :: .java g :: below)).frames := by
    rw [hb, State.frames_setFrames _ hcur, Launch.admits_vmThrowRoom X.admits]
    unfold Platform.stackBeyond Platform.stackFree
    rw [stackUse_light _ _ (fun f hf => by cases hf) rfl, hus]
    exact ⟨decide_eq_false (by omega), by omega⟩
  obtain ⟨hbeyond, hfreeW⟩ := hbf
  have hfr' : (Frame.native nf :: .java g :: below).length + Ps.length + 4 < (e.platform.stackLimits W.me).1 := by
    have := X.framesAbove hRframes
    rw [hfr] at this
    simp only [List.length_cons] at this ⊢
    omega
  have hwd' : (stackUse (.native nf :: .java g :: below)).2 + 13 * Ps.length + 55 ≤ (e.platform.stackLimits W.me).2 := by
    rw [hus]
    have : 13 * Ps.length + 55 ≤ 10240 := by omega
    show (stackUse (.java g :: below)).2 + 13 * Ps.length + 55 ≤ _
    omega
  have hslots : W.slotsUsed + kX.instanceTypes.size ≤ e.platform.maxSlots := by
    have := X.slotsAbove hRslots
    rw [hn6]
    exact this
  obtain ⟨kX', hk', he'⟩ := X.warmed.alike.2.2 _ _ hk
  have hty : kX'.instanceTypes = kX.instanceTypes := by rw [he']
  have hfresh : freshCell P1.m.cls kX' = (freshCell P1.m.cls kX) := by
    show ({ cls := P1.m.cls, slots := kX'.instanceTypes.map defaultValue, vm := .none } : Cell) = _
    rw [hty]
  have hltS : T.aS < W.heap.size := (Array.getElem?_eq_some_iff.mp hcellS).1
  have hOT : zOv (W.pushCell (freshCell P1.m.cls kX)) (.native nf :: .java g :: below) below := hO.cell _
  have hcell0 : (W.pushCell (freshCell P1.m.cls kX)).heap[W.heap.size]? = some (freshCell P1.m.cls kX) := State.heap_pushCell_size _ _
  have hcellS9 : (W.pushCell (freshCell P1.m.cls kX)).heap[T.aS]? = some cellS := by
    show (W.heap.push _)[T.aS]? = _
    rw [Array.getElem?_push_lt hltS]
    exact (Array.getElem?_eq_some_iff.mp hcellS).2 ▸ rfl
  obtain ⟨vm', hW', st0⟩ := zo_run0 p (W := W.pushCell (freshCell P1.m.cls kX)) (self := W.heap.size) hOT hexec T L Z LZ X.warmed (u0 := u0) (sen := sen) hcell0 rfl rfl hsel0 hcellS9 (Nat.ne_of_lt hltS) hknownS hvU tkS hskip htr hselF hvSen tkC tkP Y.objLocals P1 L1 Ps hL hlink1 hlink (lim := e.platform.stackLimits W.me) rfl hfr' hwd'
  have hbq : (((preparedCellV T.toThrowableT (freshCell P1.m.cls kX) W.heap.size u0 sen).withEntry W.cur).setSlot T.fStack.slot u0.v).left = ((preparedCellV T.toThrowableT (freshCell P1.m.cls kX) W.heap.size u0 sen).setSlot T.fStack.slot u0.v) := by
    have h2 : ((freshCell P1.m.cls kX).withEntry W.cur).left = freshCell P1.m.cls kX := Cell.left_withEntry W.cur rfl rfl
    simp only [preparedCellV, Cell.withEntry_setSlot, Cell.left_setSlot, h2]
  have st0 := fun target => (show (W.pushCell (freshCell P1.m.cls kX)).cur = W.cur from rfl) ▸ st0 target
  have st : ∀ target, Steps p.tables e below ((((W.pushCell (freshCell P1.m.cls kX)).setVm vm').setCell W.heap.size ((preparedCellV T.toThrowableT (freshCell P1.m.cls kX) W.heap.size u0 sen).setSlot T.fStack.slot u0.v)).setFrames (.throwing W.heap.size :: .java g :: below)) target → Steps p.tables e below (((W.setTop g).pushFrame (.native nf)).pushFrame (.throwNew cls none none)) target := fun target hrest => by
    rw [hW0]
    refine zo_start0 hO (cls := cls) (cX := P1.m.cls) (kX := kX') (i := P1.m.idx) hsoe hoom (by rw [X.warmed.alike.findClass]; exact hfound) hk' (by rw [he']; exact hinit) (by rw [he']; exact hord)
      (Launch.admits_hotImplicitExceptions X.admits) hbeyond hfreeW (by rw [he']; exact hctor) (X.cellsAbove hRcells) (by rw [hty]; exact hslots) ?_
    rw [hfresh]
    refine st0 _ ?_
    rw [hbq]
    refine zo_leave ?_ hn1 hn2 hrest
    exact ⟨((hOT.vm vm').put _ _).go, ((hOT.vm vm').put _ _).cur, hO2.up⟩
  have X4 := (X.pushed (freshCell P1.m.cls kX)).noted hW'
  have ha : W.heap.size < ((W.pushCell (freshCell P1.m.cls kX)).setVm vm').heap.size := by show _ < (W.pushCell (freshCell P1.m.cls kX)).heap.size; rw [State.heap_size_pushCell]; omega
  have X5 := (((X4.stored (a := W.heap.size) hcell0 T.fCause.slot (.ref W.heap.size)).storedAgain ha T.fStack.slot u0.v).storedAgain ha T.fSupp.slot sen.v).storedAgain ha T.fStack.slot u0.v
  obtain ⟨g₁, hfrM⟩ := X5.frames_eq
  have hU : ((((W.pushCell (freshCell P1.m.cls kX)).setVm vm').setCell W.heap.size ((preparedCellV T.toThrowableT (freshCell P1.m.cls kX) W.heap.size u0 sen).setSlot T.fStack.slot u0.v)).setTop g).pushFrame (.throwing W.heap.size) = (((W.pushCell (freshCell P1.m.cls kX)).setVm vm').setCell W.heap.size ((preparedCellV T.toThrowableT (freshCell P1.m.cls kX) W.heap.size u0 sen).setSlot T.fStack.slot u0.v)).setFrames (.throwing W.heap.size :: .java g :: below) := by
    rw [State.pushFrame, State.frames_setTop _ hfrM, State.setTop_of_frames _ hfrM, State.setFrames_setFrames]
  have b3 : (freshCell P1.m.cls kX).slots.size = 6 := by simp [hn6]
  rw [b3] at X5
  simp only [List.append_assoc, List.cons_append, List.nil_append] at X5
  refine ⟨((W.pushCell (freshCell P1.m.cls kX)).setVm vm').setCell W.heap.size ((preparedCellV T.toThrowableT (freshCell P1.m.cls kX) W.heap.size u0 sen).setSlot T.fStack.slot u0.v), W.heap.size, _, fun target ht => st _ (by rw [← hU]; exact ht),
    X5.forget (fun y hy => ?_), heapAt_setCell_self _ ha, hfound, rfl⟩
  simp only [List.mem_cons, List.not_mem_nil, or_false] at hy
  have hge : s.heap.size ≤ W.heap.size := X.same.2.1
  rcases hy with rfl | rfl | rfl | rfl <;> exact hge
