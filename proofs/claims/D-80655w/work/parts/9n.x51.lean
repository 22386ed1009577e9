/-! ===== methods that hold their object's monitor ===== -/
theorem sy_plain {s s1 : State} {m : MethodId} (h : s1.vm = s.vm) (hp : s.plainMethod m) : s1.plainMethod m := by
  unfold State.plainMethod at hp ⊢
  rw [h]; exact hp
/-- the entry: a walk over the start with the monitor entered -/
theorem sy_met {l : Launch} {y : MethodName} {ws : List Cond} {rm : Room} {Pc : Array Value → State → Prop} {Qc : Array Value → State → Outcome → State → Prop} {mc ms : Nat} {free : Addr → Prop} {cc : ByteArray} {nL : Nat} {ret : Option FieldType}
    (hy : plainName y.cls = true) (hc : Cond.codeSync y cc nL ret ∈ ws) (hin : Cond.instanceMethod y ∈ ws)
    (hrecv : ∀ (args : Array Value) (s : State), Pc args s → ∃ a cell, args[0]? = some (.ref a) ∧ s.heap[a]? = some cell ∧ cell.enterable s.cur)
    (body : ∀ (p : Program) (e : Env) (s : State) (m : MethodId) (args : Array Value) (below : List Frame) (meth : Method) (c : Code) (a : Addr) (cell : Cell), p.tables.exec = Jvm.exec → s.vm.findClass y.cls = some m.cls → (∀ w ∈ ws, w.before args s = true) → meth.sig.returnType = ret → meth.locks = true → c.code = cc → c.maxLocals = nL → Pc args s → args[0]? = some (.ref a) → s.heap[a]? = some cell → cell.enterable s.cur → W p l e rm (s.setCell a (cell.withEntry s.cur)) m args below meth c (s.setCell a (cell.withEntry s.cur)).heap [] 0 0 (MQ below Qc args s mc ms free) (entryFrameSync m args nL a)) :
    Met l y ws rm Pc Qc mc ms free := by
  intro p e ha hcas hck s m args below hf happ hP _
  obtain ⟨hrun, hable, halone, hname, hhears, hripe, hroom, hpre⟩ := (Spec.appliesLoose_iff hf).mp happ
  have hws := atoms_spec (ws := ws) hpre
  obtain ⟨meth, c, hm, hcd, hb, hml, hret, hlk, -, -⟩ := Cond.codeSync_spec hname (hws _ hc)
  obtain ⟨mI, methI, hnI, hmI, hst, -⟩ := Cond.instanceMethod_spec (hws _ hin)
  cases hname.symm.trans hnI
  cases hm.symm.trans hmI
  obtain ⟨a, cell, harg, hcell, hent⟩ := hrecv args s hP
  have hcur := State.cur_lt_of_frames hf
  have hpl0 : s.plainMethod m := State.plainMethod.of_named (plainFor_of_name hy) hname hm
  have hown : s.vm.findClass y.cls = some m.cls := findClass_of_methodNamed hname
  have K := body p e s m args below meth c a cell (by cases p <;> rfl) hown hws hret hlk hb hml hP harg hcell hent
  have hfull : e.platform.stackFull (s.setFrames below).me (s.setFrames below).frames (c.maxLocals + 2) = false := by
    obtain ⟨-, r1, -, r2⟩ := State.hasRoom_stack hroom
    rw [hf, List.length_cons] at r1
    rw [State.localsInUse_invoking hf hm hcd] at r2
    have hw := stackUse_le_stackWeight below
    rw [State.frames_setFrames _ hcur]
    simp only [vmFrameWords] at r2
    exact Platform.stackFull_eq_false (by rw [State.stackLimits_setFrames]; omega) (by rw [State.stackLimits_setFrames]; omega)
  have hstep := (doInvoke_java_sync (s := s.setFrames below) (e := e) (acts := []) (m := m) (args := args) (meth := meth) (code := c) (a := a) (cell := cell) hm hcd hlk hst harg hcell hent.either hfull).1
  obtain ⟨th, hth, -⟩ := State.frames_cons hf
  obtain ⟨s', es⟩ : ∃ s' : State, s' = s.setCell a (cell.withEntry s.cur) := ⟨_, rfl⟩
  have hcur' : s'.cur < s'.threads.size := by rw [es]; exact hcur
  have hth' : s'.threads[s'.cur]? = some th := by rw [es]; exact hth
  have hf1 : (s'.setFrames (.java (entryFrameSync m args c.maxLocals a) :: below)).frames = .java (entryFrameSync m args c.maxLocals a) :: below := State.frames_setFrames _ hcur'
  have ht1 := State.topJava?_of_frames hf1
  have hAt : At (s'.setFrames (.java (entryFrameSync m args c.maxLocals a) :: below)) m c below :=
    ⟨by rw [ht1]; rfl, ⟨[], by rw [hf1]; rfl⟩, by rw [es]; exact hrun, by simpa [es] using hable, by simpa [es] using halone, by rw [State.code?_eq]; simp [State.setFrames, State.setCell, hm, hcd, es], sy_plain (s := s) (by rw [es]; rfl) hpl0⟩
  have X : Stand p l e rm s' m args below meth c (s'.setFrames (.java (entryFrameSync m args c.maxLocals a) :: below)) [] 0 0 :=
    ⟨ha, hcas, hck, by rw [es]; exact hf, by rw [es, State.hasRoom_setCell (x := cell.withEntry s.cur) hcell rfl]; exact hroom, by rw [es]; exact hhears, by rw [es]; exact hm, hcd, hAt, by rw [hf1]; rfl, State.WarmedH.refl s', by rw [State.stackLimits_setFrames], by rw [State.stackBytes_setFrames], (State.sameButNew.refl s' (x := th) hth').setFrames _ hcur'⟩
  rw [← es, ← hml] at K
  obtain ⟨t, st, o, b1, b2, b3⟩ := K (s'.setFrames (.java (entryFrameSync m args c.maxLocals a) :: below)) rfl X
  rw [State.setTop_self ht1] at st
  have hstep2 : (stepThread p.tables e s).1 = s'.setFrames (.java (entryFrameSync m args c.maxLocals a) :: below) := by
    rw [stepThread_invoking hf, hstep]
    have hcur2 : (s.setFrames below).cur = s.cur := rfl
    show (((s.setFrames below).setCell a (cell.withEntry s.cur)).setFrames (.java (entryFrameSync m args c.maxLocals a) :: ((s.setFrames below).setCell a (cell.withEntry s.cur)).frames)) = _
    rw [show ((s.setFrames below).setCell a (cell.withEntry s.cur)).frames = below from State.frames_setFrames _ hcur, State.setCell_setFrames, State.setFrames_setFrames, es]
  obtain ⟨n, hn, hw⟩ := Steps.head (tb := p.tables) (e := e) ⟨hrun, hable, halone⟩ ⟨[.invoking m args], hf, by simp, by simp⟩ (hstep2 ▸ st)
  exact ⟨n, o, hw, hn ▸ b1, hn ▸ b2, hn ▸ ⟨b3.1, b3.2⟩⟩
/-- what such a method gives its caller -/
theorem sy_back {l : Launch} {R : Room} {p : Program} {e : Env} {below : List Frame} {s : State} {sargs : Array Value} {y : MethodName} {len W9 : Nat} {ws : List Cond} {rm : Room} {Pc : Array Value → State → Prop} {Qc : Array Value → State → Outcome → State → Prop} {mc ms : Nat} {free : Addr → Prop} {cc : ByteArray} {nL : Nat} {ret : Option FieldType}
    (hM : Met l y ws rm Pc Qc mc ms free) (hbl : FrameBlind Pc) (hrc : rm.cells = mc) (hrs : rm.slots = ms) (hfr : rm.frames + 1 ≤ R.frames) (hlo : W9 + (nL + 11) + rm.locals ≤ R.locals)
    (hws : ∀ w ∈ ws, ∀ (a' : Array Value) (U : State), s.WarmedH U.vm → w.before a' U = true) (hc : Cond.codeSync y cc nL ret ∈ ws) (hini : ∀ (a' : Array Value) (U : State), s.WarmedH U.vm → (Cond.initialized y.cls).before a' U = true) :
    Back l R p e below s sargs y len W9 (PreOf R mc ms Pc) (PostOf Qc mc ms free) := by
  intro m meth c A g ig mk a X hg hsize hdg hW hn hp
  obtain ⟨U, Ls, c0, s0⟩ := A
  obtain ⟨p1, p2, p3⟩ := hp
  dsimp only [Pt.U, Pt.locs, Pt.cells, Pt.slots] at p1 p2 p3 X hn ⊢
  have hall : (headSpec ws rm).pre.before a U = true := atoms_intro fun w hw => hws w hw _ _ X.warmed
  obtain ⟨methY, cY, hmY, hcY, -, hlY, -, -, -, -⟩ := Cond.codeSync_spec hn (hws _ hc a U X.warmed)
  obtain ⟨kY, hkY, -⟩ := className_of_methodNamed hn
  have hinitY : kY.init = .initialized := Cond.initialized_spec (findClass_of_methodNamed hn) hkY (hini a U X.warmed)
  have h : At U g.method c below := by rw [hg]; exact X.here
  have happ : (headSpec ws rm).appliesLoose y e.platform (U.calling g mk a) = true :=
    Spec.appliesLoose_calling (g := g) h hdg hn hkY hinitY (X.room_calling (g := g) (R' := rm) hsize hmY hcY hfr (by rw [hlY]; omega) (by rw [hrc]; exact p1) (by rw [hrs]; exact p2)) hall
  obtain ⟨mid, hmid⟩ := h.above
  have hfr9 : (U.setTop g).frames = (.java g :: mid) ++ below := by rw [State.frames_setTop' g h.top, hmid]; rfl
  obtain ⟨o, s2, hsteps, -, hend, hq⟩ := Steps.callFree hM p X.admits X.cas X.clock (acts := []) hfr9 happ (hbl _ _ _ _ p3) trivial
  rw [State.frames_setTop' g h.top] at hend
  have hq' : Qc a (U.calling g mk a) o s2 ∧ ∃ L, FrameEnd (U.calling g mk a) o s2 L mc ms ∧ ∀ q ∈ L, free q.base := hq
  obtain ⟨hq1, L, hfe, hL⟩ := hq'
  obtain ⟨⟨v, rfl⟩, hW2, e2, q2, q3, q4, q5, q6⟩ := id hfe
  have e3 : s2 = ({ (U.calling g mk a).setFrames s2.frames with heap := s2.heap, slotsUsed := s2.slotsUsed } : State).setVm s2.vm := by
    have e4 : s2 = ({ s2 with vm := (U.calling g mk a).vm } : State).setVm s2.vm := rfl
    rw [e2] at e4
    exact e4
  obtain ⟨c2, i2, len2, hc2, hd2, hf2⟩ := hend
  have hW' : U.WarmedH s2.vm := hW2
  have hcc : c2 = c := by
    have h1 : s2.code? g.method = U.code? g.method := by rw [State.code?_eq, State.code?_eq, hW'.alike.method?]
    exact Option.some.inj (hc2.symm.trans (h1.trans h.code))
  subst hcc
  have hlen : len2 = len := by rw [hdg] at hd2; cases hd2; rfl
  subst hlen
  obtain ⟨g0, hg0⟩ := Option.isSome_iff_exists.mp h.top
  obtain ⟨r, hr⟩ := State.topJava?_eq_some.mp hg0
  have hs2 : s2 = (({ U with heap := s2.heap, slotsUsed := s2.slotsUsed } : State).setVm s2.vm).setTop { g with pc := g.pc + len2, stack := v.toList ++ g.stack } := by
    have hr' : (({ U with heap := s2.heap, slotsUsed := s2.slotsUsed } : State).setVm s2.vm).frames = .java g0 :: r := hr
    refine e3.trans ?_
    rw [hf2, State.calling_eq h.top, State.setFrames_setFrames, State.setTop_of_frames _ hr', hr]
    rfl
  have hsame : U.sameButNew ({ U with heap := s2.heap, slotsUsed := s2.slotsUsed } : State) L mc ms := by
    refine ⟨?_, q2, q3, q4, q5, q6⟩
    obtain ⟨t, ht, -⟩ := State.frames_cons hr
    show ({ U with heap := s2.heap, slotsUsed := s2.slotsUsed } : State) = { U.setFrames U.frames with heap := s2.heap, slotsUsed := s2.slotsUsed }
    rw [State.setFrames_self ht]
  subst hg
  refine ⟨v, ⟨(({ U with heap := s2.heap, slotsUsed := s2.slotsUsed } : State).setVm s2.vm), Ls ++ L, c0 + mc, s0 + ms⟩,
    ⟨X.admits, X.cas, X.clock, X.frames, X.room, X.hears, X.method, X.code, (X.here.setHeapUsed s2.heap s2.slotsUsed).setVm hW'.alike, X.tail, State.WarmedH.trans X.warmed hW', X.limits, X.bytes, X.same.trans (hsame.setVm s.vm)⟩,
    ⟨g, mk, s2, L, rfl, rfl, hq1, rfl, hL, rfl, rfl⟩, ?_⟩
  show Steps p.tables e below _ ((({ U with heap := s2.heap, slotsUsed := s2.slotsUsed } : State).setVm s2.vm).setTop { g with pc := g.pc + len2, stack := v.toList ++ g.stack })
  rw [← hs2]
  exact hsteps
section SYR
variable {p : Program} {l : Launch} {e : Env} {R : Room} {s : State} {m : MethodId} {args : Array Value} {below : List Frame} {meth : Method} {c : Code} {H : Heap} {locs : List Loc} {cells slots : Nat} {Q : State → Prop}
/-- such a method called on its object -/
theorem sy_run {y : MethodName} {ws : List Cond} {rm : Room} {Pc : Array Value → State → Prop} {Qc : Array Value → State → Outcome → State → Prop} {mc ms : Nat} {free : Addr → Prop} {cc bytes : ByteArray} {nL maxL index : Nat} {ret : Option FieldType} {Ts : List Cond} {own Cn : String} {b : Addr} {As rest : List Value} {g : JFrame}
    (S : CallFix p m c cc nL s args Ts own) (hM : Met l y ws rm Pc Qc mc ms free) (hrc : rm.cells = mc) (hrs : rm.slots = ms) (hfr : rm.frames + 1 ≤ R.frames) (hlo : 8 + (maxL + 11) + rm.locals ≤ R.locals)
    (hG : GoodIn Ts ws) (hc : Cond.codeSync y bytes maxL ret ∈ ws) (hini : Cond.initialized y.cls ∈ ws) (hl : Cond.methodLink own index y ∈ ws) (hin : Cond.instanceMethod y ∈ ws) (hse : Cond.selects Cn y y ∈ ws) (hy : y.cls ≠ "java/lang/invoke/MethodHandle" ∧ y.cls ≠ "java/lang/invoke/VarHandle" ∧ (parseMethodDescriptor y.desc).map (fun d => d.parameters.length) = some As.length) (hbl : FrameBlind Pc) (hbc : ∃ cellB : Cell, H[b]? = some cellB ∧ cellB.vm.isStatics = false ∧ s.vm.findClass Cn = some cellB.cls) (hPc : ∀ U : State, U.heap = H → U.cur = s.cur → s.WarmedH U.vm → Pc (Value.ref b :: As).toArray U)
    (hg : g.method = m) (hsize : g.locals.size = nL) (hstack : g.stack = As.reverse ++ .ref b :: rest) (hW : 2 * g.monitorRoom + (rest.map fun v => v.category).sum ≤ 8) (hdg : decode cc g.pc = .ok (.invokevirtual index, 3)) (hf : cells + mc ≤ R.cells ∧ slots + ms ≤ R.slots) :
    va_Run p l e R s m args below meth c H locs cells slots mc ms g rest (Qc (Value.ref b :: As).toArray) free := by
  obtain ⟨hx, hb, hml, hown, hts⟩ := S
  have hw1 := pay_in hts hG
  have hK : Back l R p e below s args y 3 8 (PreOf R mc ms Pc) (PostOf Qc mc ms free) := sy_back hM hbl hrc hrs hfr hlo hw1 hc (hw1 _ hini)
  have hok : ∀ w ∈ ws, w.before args s = true := fun w hw => hts w (hG w hw).1
  obtain ⟨mk, methM, hnamed, hmethM, hstM, habM⟩ := Cond.instanceMethod_spec (hok _ hin)
  obtain ⟨methM', cM, hmethM', -, -, -, -, -, -, hsigM⟩ := Cond.codeSync_spec hnamed (hok _ hc)
  cases hmethM.symm.trans hmethM'
  obtain ⟨c2, r2, m2, q1, q2, q3, q4, kP, hkP, hkPi⟩ := Cond.selects_spec (hok _ hse)
  obtain ⟨cellB, hcB, hoB, hclB⟩ := hbc
  cases hclB.symm.trans q1
  cases (State.methodFound?_of_named hnamed ⟨hy.1, hy.2.1⟩).symm.trans q2
  cases hnamed.symm.trans q3
  have hlen : As.length = methM.sig.parameters.length := by
    have h2 := hy.2.2
    rw [hsigM] at h2
    exact (Option.some.inj h2).symm
  intro T hT X
  have hselP : selectMethod e.platform s.vm cellB.cls mk = .method mk := by rw [Launch.admits_selectMethod X.admits]; exact q4
  obtain ⟨vm1, X1, hstep1⟩ := X.invokevirtual hx hown (hok _ hl) hnamed hmethM hstM hkP hkPi ⟨hy.1, hy.2.1⟩ (a := b) (cell := cellB) (by rw [hT]; exact hcB)
    (fun z h => by rw [h] at hoB; cases hoB) hselP hmethM habM hkP hkPi (g := g) hg (argsL := As) (rest := rest) hlen hstack (by rw [hb]; exact hdg)
  obtain ⟨v, ⟨U', l2, c2, s2⟩, X', ⟨g', mk', t, L, e1, e2, hq, h1, hL, h2, h3⟩, hsteps⟩ := hK m meth c ⟨T.setVm vm1, locs, cells, slots⟩ { g with stack := rest } (.invokevirtual index) mk (Value.ref b :: As).toArray X1 hg (hsize.trans hml.symm) (by rw [hb]; exact hdg) hW (X1.named hnamed) ⟨hf.1, hf.2, hPc (T.setVm vm1) hT (by have h9 := congrArg State.cur X.same.1; exact h9) X1.warmed⟩
  dsimp only [Pt.U, Pt.locs, Pt.cells, Pt.slots] at X' e1 e2 h1 h2 h3 hsteps
  subst h1; subst h2; subst h3
  exact ⟨v, (T.setVm vm1).calling g' mk' (Value.ref b :: As).toArray, t, U', L, hT, X', hL, e1, e2, hq, fun target h => hstep1 _ fun acts => by rw [doInvoke_state]; exact hsteps.trans h⟩
theorem sy_go {Qa : State → Outcome → State → Prop} {free : Addr → Prop} {g : JFrame} {rest : List Value} (hr : va_Run p l e R s m args below meth c H locs cells slots 0 0 g rest Qa free) (kk : ∀ (v : Option Value) (st0 t : State) (L : List Loc), st0.heap = H → Qa st0 (.returned v) t → (∀ q ∈ L, free q.base) → W p l e R s m args below meth c t.heap (locs ++ L) cells slots Q { g with pc := g.pc + 3, stack := v.toList ++ rest }) : W p l e R s m args below meth c H locs cells slots Q g := by
  intro T hT X
  obtain ⟨v, st0, t, T', L, h0, X', hL, e1, e2, hq, stp⟩ := hr T hT X
  obtain ⟨t2, a1, b1⟩ := kk v st0 t L h0 hq hL T' e1 X'
  exact ⟨t2, stp t2 a1, b1⟩
/-- the frame of such a method -/
abbrev FS (m : MethodId) (pc : Nat) (ls : Array Slot) (st : List Value) (a : Addr) : JFrame := { method := m, pc := pc, locals := ls, stack := st, locked := some a, monitorRoom := 1 }
variable {cc : ByteArray} {pc a : Nat} {ls : Array Slot} {rest : List Value}
theorem sy_aload0 {x : Nat} (hexec : p.tables.exec = Jvm.exec) (hb : c.code = cc) (hdg : decode cc pc = .ok (.aload_n 0, 1)) (hl : ls[0]? = some (.val (.ref x))) (k : W p l e R s m args below meth c H locs cells slots Q (FS m (pc + 1) ls (.ref x :: rest) a)) : W p l e R s m args below meth c H locs cells slots Q (FS m pc ls rest a) := by
  intro T hT X
  obtain ⟨t, a1, b1⟩ := k T hT X
  refine ⟨t, ?_, b1⟩
  jvm_step X.here [X.here.top, hexec, hb, hdg, hl, Value.isRef]
  exact a1
theorem sy_dup {va : Value} (hexec : p.tables.exec = Jvm.exec) (hb : c.code = cc) (hdg : decode cc pc = .ok (.dup, 1)) (hva : va.category = 1) (k : W p l e R s m args below meth c H locs cells slots Q (FS m (pc + 1) ls (va :: va :: rest) a)) : W p l e R s m args below meth c H locs cells slots Q (FS m pc ls (va :: rest) a) := by
  intro T hT X
  obtain ⟨t, a1, b1⟩ := k T hT X
  refine ⟨t, ?_, b1⟩
  jvm_step X.here [X.here.top, hexec, hb, hdg, hva]
  exact a1
theorem sy_iconst1 (hexec : p.tables.exec = Jvm.exec) (hb : c.code = cc) (hdg : decode cc pc = .ok (.iconst 1, 1)) (k : W p l e R s m args below meth c H locs cells slots Q (FS m (pc + 1) ls (.int (iI 1) :: rest) a)) : W p l e R s m args below meth c H locs cells slots Q (FS m pc ls rest a) := by
  intro T hT X
  obtain ⟨t, a1, b1⟩ := k T hT X
  refine ⟨t, ?_, b1⟩
  jvm_step X.here [X.here.top, hexec, hb, hdg]
  exact a1
theorem sy_iadd {x y : Int32} (hexec : p.tables.exec = Jvm.exec) (hb : c.code = cc) (hdg : decode cc pc = .ok (.iadd, 1)) (k : W p l e R s m args below meth c H locs cells slots Q (FS m (pc + 1) ls (.int (x + y) :: rest) a)) : W p l e R s m args below meth c H locs cells slots Q (FS m pc ls (.int y :: .int x :: rest) a) := by
  intro T hT X
  obtain ⟨t, a1, b1⟩ := k T hT X
  refine ⟨t, ?_, b1⟩
  jvm_step X.here [X.here.top, hexec, hb, hdg]
  exact a1
/-- the end: the monitor is given back -/
theorem sy_vret {cell cellT : Cell} {Qc : Array Value → State → Outcome → State → Prop} {free : Addr → Prop} (hexec : p.tables.exec = Jvm.exec) (hb : c.code = cc) (hlk : meth.locks = true) (hr : meth.sig.returnType = none) (hcell : s.heap[a]? = some cell) (hent : cell.enterable s.cur) (hH : H[a]? = some cellT)
    (hq : ∀ t : State, t.heap = H.setIfInBounds a cellT.left → s.WarmedH t.vm → Qc args s (.returned none) t) (hf : ∀ q ∈ locs, free q.base) (hdg : decode cc pc = .ok (.return_, 1)) :
    W p l e R (s.setCell a (cell.withEntry s.cur)) m args below meth c H locs cells slots (MQ below Qc args s cells slots free) (FS m pc ls [] a) := by
  intro T hT X
  obtain ⟨fs, cT, hcT, hret, hrun, hended, hW, hframe⟩ := X.leaveSync hcell hent hlk (v := none) (fun _ => rfl)
  have e9 : cT = cellT := Option.some.inj (hcT.symm.trans (by rw [hT]; exact hH))
  subst e9
  have hmeth' : T.vm.method? m = some meth := X.method'
  refine ⟨(T.setCell a cT.left).setFrames fs, ?_, .returned none, hrun, hended, hq _ (by rw [← hT]; rfl) hW, locs, ⟨⟨_, rfl⟩, hW, hframe⟩, hf⟩
  jvm_step X.here [X.here.top, hexec, hb, hdg, hmeth', hr]
  (try refine ⟨rfl, ?_⟩); (try refine ⟨rfl, ?_⟩)
  first | (intro acts; rw [hret _ acts rfl rfl rfl]) | rw [hret _ _ rfl rfl rfl]
  exact Steps.refl _
theorem sy_iret {cell cellT : Cell} {v : Int32} {Qc : Array Value → State → Outcome → State → Prop} {free : Addr → Prop} (hexec : p.tables.exec = Jvm.exec) (hb : c.code = cc) (hlk : meth.locks = true) (hr : meth.sig.returnType = some .int) (hcell : s.heap[a]? = some cell) (hent : cell.enterable s.cur) (hH : H[a]? = some cellT)
    (hq : ∀ t : State, t.heap = H.setIfInBounds a cellT.left → s.WarmedH t.vm → Qc args s (.returned (some (.int v))) t) (hf : ∀ q ∈ locs, free q.base) (hdg : decode cc pc = .ok (.ireturn, 1)) :
    W p l e R (s.setCell a (cell.withEntry s.cur)) m args below meth c H locs cells slots (MQ below Qc args s cells slots free) (FS m pc ls [.int v] a) := by
  intro T hT X
  obtain ⟨fs, cT, hcT, hret, hrun, hended, hW, hframe⟩ := X.leaveSync hcell hent hlk (v := some (.int v)) (fun h => by rw [hr] at h; cases h)
  have e9 : cT = cellT := Option.some.inj (hcT.symm.trans (by rw [hT]; exact hH))
  subst e9
  have hmeth' : T.vm.method? m = some meth := X.method'
  refine ⟨(T.setCell a cT.left).setFrames fs, ?_, .returned (some (.int v)), hrun, hended, hq _ (by rw [← hT]; rfl) hW, locs, ⟨⟨_, rfl⟩, hW, hframe⟩, hf⟩
  jvm_step X.here [X.here.top, hexec, hb, hdg, hmeth', hr, narrow]
  (try refine ⟨rfl, ?_⟩); (try refine ⟨rfl, ?_⟩)
  first | (intro acts; rw [hret _ acts rfl rfl rfl]) | rw [hret _ _ rfl rfl rfl]
  exact Steps.refl _
end SYR

