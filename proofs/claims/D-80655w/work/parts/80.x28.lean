/-! ===== methods that may throw ===== -/
/-- what a method that throws leaves: an exception of the class E at q, a picture -/
def zXC (θ : zTh) (PX : String → Nat → (Heap → Prop) → Prop) : Addr → String → State → State → Prop := fun q E st t => (∃ Pic : Heap → Prop, PX E q Pic ∧ Pic t.heap) ∧ va_F (zA θ) st t
def zMX (θ : zTh) (l : Launch) (y : MethodName) (ws : List Cond) (rm : Room) (As : List Value) (Pic : Heap → Prop) (P : Option Value → (Heap → Prop) → Prop) (PX : String → Nat → (Heap → Prop) → Prop) : Prop :=
  vx_Met l y ws rm (zPc θ As Pic) (zQc θ P) (zXC θ PX) rm.cells rm.slots (zA θ)
/-- the judgement of a frame in which q is thrown -/
def zX : zK → (Heap → Prop) → Nat → Nat → Nat → List (Nat × Value) → Nat → String → Prop
  | (θ, p, l, e, R, s, m, args, below, meth, c, Q), Pic, n, k, pc, lv, q, E => ∀ (H : Heap) (locs : List Loc) (ls : Array Slot) (ce : Cell) (rest : List Value), Pic H → va_S (zA θ) s.heap H locs → lv_has ls c.maxLocals lv → H[q]? = some ce → ce.vm = .none → s.vm.findClass E = some ce.cls → vx_W p l e R s m args below meth c H locs n k Q (F0 m pc ls rest) q
/-- what stands still in a body that may throw: its table, what it owes -/
def ZX : zK → List (Nat × Nat × Nat × Nat) → Room → (Option Value → (Heap → Prop) → Prop) → (String → Nat → (Heap → Prop) → Prop) → Prop
  | (θ, p, l, e, R, s, m, args, below, meth, c, Q), hh, rm, P, PX => c.exceptionTable.toList = tableOf hh ∧ Q = vx_MQ below (zQc θ P) (zXC θ PX) args s rm.cells rm.slots (zA θ)
theorem zx_start {θ : zTh} {l : Launch} {y : MethodName} {cc : ByteArray} {nL : Nat} {ret : Option FieldType} {rm : Room} {As : List Value} {Pic : Heap → Prop} {P : Option Value → (Heap → Prop) → Prop} {PX : String → Nat → (Heap → Prop) → Prop} {own nm : String} (hy : plainName y.cls = true) (ho : y.cls = own) (hnm : y.name = nm) (hn : (lg_sl As).length ≤ nL)
    (body : ∀ κ : zK, κ.1 = θ → κ.2.2.1 = l → ZC κ own nm cc nL ret rm P → ZX κ [] rm P PX → Z κ Pic 0 0 0 (lv_args 0 As) []) : zMX θ l y (ws_ y cc nL ret) rm As Pic P PX := by
  refine vx_ofW (cc := cc) (maxL := nL) (ret := ret) hy rfl ?_
  intro p e s m args below meth c s₁ B hml ht hv
  obtain ⟨rfl, hP, hU⟩ := hv
  have hts := atoms_spec (ws := ws_ y cc nL ret) B.pre
  have hts : ∀ w ∈ lw_all, w.before _ s = true := fun w h => hts w (List.mem_cons_of_mem _ h)
  have hown : s.vm.findClass y.cls = some m.cls := findClass_of_methodNamed B.named
  rw [ho] at hown
  have hl := lv_entry As (n := nL) hn
  rw [lg_entry_eq]
  have he : c.exceptionTable.toList = tableOf [] := by
    cases h : c.exceptionTable.toList with
    | nil => rfl
    | cons x xs => exact (ht x (by rw [h]; exact List.mem_cons_self)).elim
  exact body (θ, p, l, e, rm, s, m, As.toArray, below, meth, c, vx_MQ below (zQc θ P) (zXC θ PX) As.toArray s rm.cells rm.slots (zA θ)) rfl rfl ⟨B.exec, B.bytes, hml, hown, hts, hU, B.notSynchronized, B.returns, by rw [← hnm]; exact (name_of_methodNamed B.named B.method).1, rfl, fun _ _ _ _ _ h => vx_ret h⟩ ⟨he, rfl⟩ s.heap [] _ hP va_S.rf (by rw [hml]; exact hl)
theorem zx_startW {θ : zTh} {l : Launch} {y : MethodName} {cc : ByteArray} {nL : Nat} {ret : Option FieldType} {hh : List (Nat × Nat × Nat × Nat)} {rm : Room} {As : List Value} {Pic : Heap → Prop} {P : Option Value → (Heap → Prop) → Prop} {PX : String → Nat → (Heap → Prop) → Prop} {own nm : String} (hy : plainName y.cls = true) (ho : y.cls = own) (hnm : y.name = nm) (hn : (lg_sl As).length ≤ nL)
    (body : ∀ κ : zK, κ.1 = θ → κ.2.2.1 = l → ZC κ own nm cc nL ret rm P → ZX κ hh rm P PX → Z κ Pic 0 0 0 (lv_args 0 As) []) : zMX θ l y (wsW_ y cc nL ret hh) rm As Pic P PX := by
  refine vx_ofWH (cc := cc) (maxL := nL) (ret := ret) (hh := hh) hy rfl ?_
  intro p e s m args below meth c s₁ B hml hv
  obtain ⟨rfl, hP, hU⟩ := hv
  have hts := atoms_spec (ws := wsW_ y cc nL ret hh) B.pre
  have he : c.exceptionTable.toList = tableOf hh := vx_table (x := y) B (hts _ List.mem_cons_self)
  have hts : ∀ w ∈ lw_all, w.before _ s = true := fun w h => hts w (List.mem_cons_of_mem _ h)
  have hown : s.vm.findClass y.cls = some m.cls := findClass_of_methodNamed B.named
  rw [ho] at hown
  have hl := lv_entry As (n := nL) hn
  rw [lg_entry_eq]
  exact body (θ, p, l, e, rm, s, m, As.toArray, below, meth, c, vx_MQ below (zQc θ P) (zXC θ PX) As.toArray s rm.cells rm.slots (zA θ)) rfl rfl ⟨B.exec, B.bytes, hml, hown, hts, hU, B.notSynchronized, B.returns, by rw [← hnm]; exact (name_of_methodNamed B.named B.method).1, rfl, fun _ _ _ _ _ h => vx_ret h⟩ ⟨he, rfl⟩ s.heap [] _ hP va_S.rf (by rw [hml]; exact hl)
section ZXR
variable {κ : zK} {own nm : String} {cc : ByteArray} {nL : Nat} {ret : Option FieldType} {rm : Room} {P : Option Value → (Heap → Prop) → Prop} {PX : String → Nat → (Heap → Prop) → Prop} {Pic : Heap → Prop} {n k pc : Nat} {lv : List (Nat × Value)} {st rest : List Value}
variable {θ : zTh} {l : Launch} {hh : List (Nat × Nat × Nat × Nat)} {b : Nat} {E : String}
theorem zx_pic {Pic' : Heap → Prop} (h : ∀ H, Pic H → Pic' H) (kk : zX κ Pic' n k pc lv b E) : zX κ Pic n k pc lv b E := by
  obtain ⟨θ, p, l, e, R, s, m, args, below, meth, c, Q⟩ := κ
  intro H locs ls ce rest hP hS hl h1 h2 h3
  exact kk H locs ls ce rest (h H hP) hS hl h1 h2 h3
theorem zx_widen {n' k' : Nat} (h1 : n ≤ n') (h2 : k ≤ k') (kk : zX κ Pic n' k' pc lv b E) : zX κ Pic n k pc lv b E := by
  obtain ⟨θ, p, l, e, R, s, m, args, below, meth, c, Q⟩ := κ
  intro H locs ls ce rest hP hS hl g1 g2 g3
  exact vx_widen h1 h2 (kk H locs ls ce rest hP hS hl g1 g2 g3)
/-- an entry of the table that does not take E -/
def zPs (own E : String) (pc : Nat) (z : ExceptionTableEntry) : Prop := covers z pc = false ∨ (z.catchType ≠ 0 ∧ ∃ nm : String, Cond.classLink own z.catchType nm ∈ lw_all ∧ (E, nm) ∈ zNc)
theorem zx_out (C : ZC κ own nm cc nL ret rm P) (hκ : κ.1 = θ) (hT : zTb θ) (X : ZX κ hh rm P PX) (hp : ∀ z ∈ tableOf hh, zPs own E pc z) (hPX : PX E b Pic) (h1 : n ≤ rm.cells) (h2 : k ≤ rm.slots) : zX κ Pic n k pc lv b E := by
  obtain ⟨θ', p, l, e, R, s, m, args, below, meth, c, Q⟩ := κ
  obtain ⟨hx, hb, hml, hown, hts, hU, hlk, hret, hnm, hR, hQ⟩ := C
  obtain ⟨X1, X2⟩ := X
  have hκ : θ' = θ := hκ
  subst hκ; subst X2
  intro H locs ls ce rest hP hS hl g1 g2 g3
  refine vx_outP hown hlk (fun z hz => ?_) g1 g2 g3 (fun t ht hW => ⟨⟨Pic, hPX, by rw [ht]; exact hP⟩, hS.F ht⟩) hS.2.2 h1 h2
  rw [X1] at hz
  rcases hp z hz with h | ⟨h, nm', h3, h4⟩
  · exact Or.inl h
  · exact Or.inr ⟨h, nm', hts _ h3, hT.no hU h4⟩
theorem zx_catch (C : ZC κ own nm cc nL ret rm P) (hκ : κ.1 = θ) (hT : zTb θ) (X : ZX κ hh rm P PX) (pre : List ExceptionTableEntry) (x : ExceptionTableEntry) (suf : List ExceptionTableEntry) {name : String} (hsplit : tableOf hh = pre ++ x :: suf) (hp : ∀ z ∈ pre, zPs own E pc z) (hcov : covers x pc = true) (h0 : x.catchType ≠ 0) (hlink : Cond.classLink own x.catchType name ∈ lw_all) (hca : Cond.castable E name ∈ lw_tbl) (kk : Z κ Pic n k x.handlerPc lv [.ref b]) : zX κ Pic n k pc lv b E := by
  obtain ⟨θ', p, l, e, R, s, m, args, below, meth, c, Q⟩ := κ
  obtain ⟨hx, hb, hml, hown, hts, hU, hlk, hret, hnm, hR, hQ⟩ := C
  obtain ⟨X1, X2⟩ := X
  have hκ : θ' = θ := hκ
  subst hκ
  intro H locs ls ce rest hP hS hl g1 g2 g3
  refine vx_catch hown pre x suf (X1.trans hsplit) (fun z hz => ?_) hcov h0 (hts _ hlink) (va_Nw.use rfl (hT.cast hU hca)) g1 g2 g3 (kk H locs ls hP hS hl)
  rcases hp z hz with h | ⟨h, nm', h3, h4⟩
  · exact Or.inl h
  · exact Or.inr ⟨h, nm', hts _ h3, hT.no hU h4⟩
theorem zx_athrow {M N : zMap} {ci N9 : Nat} {T : u_T} {fs : List Value} (C : ZC κ own nm cc nL ret rm P) (hκ : κ.1 = θ) (hM : M b = some (.inr (ci, fs))) (hc : zCl[ci]? = some (E, T, N9)) (d : decode cc pc = .ok (.athrow, 1)) (kk : zX κ (zP θ M N) n k pc lv b E) : Z κ (zP θ M N) n k pc lv (.ref b :: rest) := by
  obtain ⟨θ', p, l, e, R, s, m, args, below, meth, c, Q⟩ := κ
  obtain ⟨hx, hb, hml, hown, hts, hU, hlk, hret, hnm, hR, hQ⟩ := C
  have hκ : θ' = θ := hκ
  subst hκ
  intro H locs ls hP hS hl
  obtain ⟨q', h1, cell, g1, g2, g3, -⟩ := (hP.1 b _ hM).1
  have hcc := (hU.2.2.2.1 ci _ hc).2.1
  exact vx_athrow hx hb d (kk H locs ls cell rest hP hS hl g1 g3 (by rw [g2]; exact hcc))
end ZXR
section ZXCall
variable {p : Program} {l : Launch} {e : Env} {R : Room} {s : State} {m : MethodId} {args : Array Value} {below : List Frame} {meth : Method} {c : Code} {H : Heap} {locs : List Loc} {n k mc ms : Nat} {Q : State → Prop} {θ : zTh}
theorem zx_run {P' : Option Value → (Heap → Prop) → Prop} {PX' : String → Nat → (Heap → Prop) → Prop} {a : Array Value} {pc : Nat} {ls : Array Slot} {st rest : List Value} {lv : List (Nat × Value)} (hr : vx_Run p l e R s m args below meth c H locs n k mc ms (F0 m pc ls st) rest (zQc θ P' a) (zXC θ PX') (zA θ)) (hS : va_S (zA θ) s.heap H locs) (hl : lv_has ls c.maxLocals lv)
    (kk : ∀ (v : Option Value) (Pic1 : Heap → Prop), P' v Pic1 → Z (θ, p, l, e, R, s, m, args, below, meth, c, Q) Pic1 (n + mc) (k + ms) (pc + 3) lv (v.toList ++ rest))
    (kx : ∀ (E : String) (b : Nat) (Pic1 : Heap → Prop), PX' E b Pic1 → zX (θ, p, l, e, R, s, m, args, below, meth, c, Q) Pic1 (n + mc) (k + ms) pc lv b E) : W p l e R s m args below meth c H locs n k Q (F0 m pc ls st) := by
  intro T hT X
  rcases hr T hT X with ⟨v, st₀, t, T', L, h0, X', hL, e1, e2, ⟨⟨v', Pic1, hv, hp, hb⟩, hz, hk⟩, stp⟩ | ⟨q, st₀, t, T', L, E, ce, h0, X', hL, e1, e2, ⟨⟨Pic1, hp, hb⟩, hz, hk⟩, hce, hcv, hcl, stp⟩
  · cases hv
    rw [h0] at hz hk
    obtain ⟨t2, a1, b1⟩ := kk v Pic1 hp T'.heap (locs ++ L) ls (by rw [e1]; exact hb)
      ⟨Nat.le_trans hS.1 (by rw [e1]; exact hz), fun q h1 h2 => by rw [e1, hk q (Nat.lt_of_lt_of_le h1 hS.1) h2]; exact hS.2.1 q h1 h2, fun q hq => by
        rcases List.mem_append.mp hq with h | h
        · exact hS.2.2 q h
        · exact hL q h⟩ hl T' rfl X'
    exact ⟨t2, stp t2 a1, b1⟩
  · rw [h0] at hz hk
    obtain ⟨t2, a1, b1⟩ := kx E q Pic1 hp T'.heap (locs ++ L) ls ce rest (by rw [e1]; exact hb)
      ⟨Nat.le_trans hS.1 (by rw [e1]; exact hz), fun q h1 h2 => by rw [e1, hk q (Nat.lt_of_lt_of_le h1 hS.1) h2]; exact hS.2.1 q h1 h2, fun q hq => by
        rcases List.mem_append.mp hq with h | h
        · exact hS.2.2 q h
        · exact hL q h⟩ hl (by rw [e1]; exact hce) hcv hcl T' rfl X'
    exact ⟨t2, stp.trans a1, b1⟩
end ZXCall
section ZXCallRows
variable {κ : zK} {own nm : String} {cc : ByteArray} {nL : Nat} {ret : Option FieldType} {rm : Room} {P : Option Value → (Heap → Prop) → Prop} {Pic : Heap → Prop} {n k pc : Nat} {lv : List (Nat × Value)} {st rest : List Value}
variable {θ : zTh} {l : Launch} {x y : MethodName} {cc' : ByteArray} {nL' idx : Nat} {ret' : Option FieldType} {rm' : Room} {As : List Value} {P' : Option Value → (Heap → Prop) → Prop} {PX' : String → Nat → (Heap → Prop) → Prop} {Cn owner : String}
theorem zx_callV (C : ZC κ own nm cc nL ret rm P) (hκ : κ.1 = θ) (hκl : κ.2.2.1 = l) {ci b N9 : Nat} {T : u_T} (q : Nat) (hM : zMX θ l y (ws_ y cc' nL' ret') rm' (.ref b :: As) Pic P' PX') (d : decode cc pc = .ok (.invokevirtual idx, 3)) (h1 : Cond.methodLink own idx y ∈ lw_all) (h2 : Cond.instanceMethod y ∈ lw_all) (h3 : Cond.selects Cn y y ∈ lw_all) (h4 : Cond.initialized Cn ∈ lw_all) (h5 : Cond.code y cc' nL' ret' ∈ lw_all) (hd : zNm y Cn As.length)
    (hf : rm'.frames + 1 ≤ rm.frames) (hlo : 8 + (nL' + 11) + rm'.locals ≤ rm.locals) (hce : n + rm'.cells ≤ rm.cells) (hsl : k + rm'.slots ≤ rm.slots) (hr : zrec θ ci b Pic) (hc : zCl[ci]? = some (Cn, T, N9)) (hst : st = As.reverse ++ .ref b :: rest) (hsz : (rest.map fun v => v.category).sum ≤ 8) (hq : pc + 3 = q)
    (kk : ∀ (v : Option Value) (Pic1 : Heap → Prop), P' v Pic1 → Z κ Pic1 (n + rm'.cells) (k + rm'.slots) q lv (v.toList ++ rest))
    (kx : ∀ (E : String) (b9 : Nat) (Pic1 : Heap → Prop), PX' E b9 Pic1 → zX κ Pic1 (n + rm'.cells) (k + rm'.slots) pc lv b9 E) : Z κ Pic n k pc lv st := by
  subst hq; subst hst; subst hκ; subst hκl
  obtain ⟨θ, p, l, e, R, s, m, args, below, meth, c, Q⟩ := κ
  obtain ⟨hx, hb, hml, hown, hts, hU, hlk, hret, hnm, rfl, hQ⟩ := C
  intro H locs ls hP hS hl
  refine zx_run (vx_runV (As := As) (rest := rest) ⟨hx, hb, hml, hown, hts⟩ hM (cwV As.length hts (lw_V h1 h2 h3 h4 h5) rfl rfl rfl hd ⟨hf, hlo⟩) ⟨zPc_blind, zrec_cell hr hc hU hP, fun U hU' hW => ⟨rfl, by rw [hU']; exact hP, hU.on hS hU' hW⟩⟩ rfl rfl (by rw [← hml]; exact hl.1) rfl (lv_room hsz) d ⟨hce, hsl⟩) hS hl kk kx
theorem zx_callS (C : ZC κ own nm cc nL ret rm P) (hκ : κ.1 = θ) (hκl : κ.2.2.1 = l) (q : Nat) (hM : zMX θ l y (ws_ y cc' nL' ret') rm' As Pic P' PX') (d : decode cc pc = .ok (.invokestatic idx, 3)) (h1 : Cond.methodLink own idx y ∈ lw_all) (h2 : Cond.static y ∈ lw_all) (h4 : Cond.initialized y.cls ∈ lw_all) (h5 : Cond.code y cc' nL' ret' ∈ lw_all) (hd : zNm y Cn As.length)
    (hf : rm'.frames + 1 ≤ rm.frames) (hlo : 8 + (nL' + 11) + rm'.locals ≤ rm.locals) (hce : n + rm'.cells ≤ rm.cells) (hsl : k + rm'.slots ≤ rm.slots) (hst : st = As.reverse ++ rest) (hsz : (rest.map fun v => v.category).sum ≤ 8) (hq : pc + 3 = q)
    (kk : ∀ (v : Option Value) (Pic1 : Heap → Prop), P' v Pic1 → Z κ Pic1 (n + rm'.cells) (k + rm'.slots) q lv (v.toList ++ rest))
    (kx : ∀ (E : String) (b9 : Nat) (Pic1 : Heap → Prop), PX' E b9 Pic1 → zX κ Pic1 (n + rm'.cells) (k + rm'.slots) pc lv b9 E) : Z κ Pic n k pc lv st := by
  subst hq; subst hst; subst hκ; subst hκl
  obtain ⟨θ, p, l, e, R, s, m, args, below, meth, c, Q⟩ := κ
  obtain ⟨hx, hb, hml, hown, hts, hU, hlk, hret, hnm, rfl, hQ⟩ := C
  intro H locs ls hP hS hl
  refine zx_run (vx_runS (As := As) (rest := rest) ⟨hx, hb, hml, hown, hts⟩ hM (va_cwS As.length hts (lw_S h1 h2 h4 h5) rfl rfl rfl ⟨hd.2.1, hd.2.2.1, hd.2.2.2⟩ ⟨hf, hlo⟩) ⟨zPc_blind, fun U hU' hW => ⟨rfl, by rw [hU']; exact hP, hU.on hS hU' hW⟩⟩ rfl rfl (by rw [← hml]; exact hl.1) rfl (lv_room hsz) d ⟨hce, hsl⟩) hS hl kk kx
theorem zx_callU (C : ZC κ own nm cc nL ret rm P) (hκ : κ.1 = θ) (hκl : κ.2.2.1 = l) {ci b N9 : Nat} {T : u_T} (q : Nat) (hM : zMX θ l y (ws_ y cc' nL' ret') rm' (.ref b :: As) Pic P' PX') (d : decode cc pc = .ok (.invokevirtual idx, 3)) (h1 : Cond.methodLink own idx x ∈ lw_all) (h2 : Cond.sameMethod x.cls owner x.name x.desc ∈ lw_all) (h3 : Cond.selects Cn x y ∈ lw_all) (h4 : Cond.instanceMethod y ∈ lw_all) (h5 : Cond.initialized y.cls ∈ lw_all) (h6 : Cond.code y cc' nL' ret' ∈ lw_all) (hyx : y = ⟨owner, x.name, x.desc⟩) (hd : zNd x owner As.length)
    (hf : rm'.frames + 1 ≤ rm.frames) (hlo : 8 + (nL' + 11) + rm'.locals ≤ rm.locals) (hce : n + rm'.cells ≤ rm.cells) (hsl : k + rm'.slots ≤ rm.slots) (hr : zrec θ ci b Pic) (hc : zCl[ci]? = some (Cn, T, N9)) (hst : st = As.reverse ++ .ref b :: rest) (hsz : (rest.map fun v => v.category).sum ≤ 8) (hq : pc + 3 = q)
    (kk : ∀ (v : Option Value) (Pic1 : Heap → Prop), P' v Pic1 → Z κ Pic1 (n + rm'.cells) (k + rm'.slots) q lv (v.toList ++ rest))
    (kx : ∀ (E : String) (b9 : Nat) (Pic1 : Heap → Prop), PX' E b9 Pic1 → zX κ Pic1 (n + rm'.cells) (k + rm'.slots) pc lv b9 E) : Z κ Pic n k pc lv st := by
  subst hq; subst hst; subst hκ; subst hκl
  obtain ⟨θ, p, l, e, R, s, m, args, below, meth, c, Q⟩ := κ
  obtain ⟨hx, hb, hml, hown, hts, hU, hlk, hret, hnm, rfl, hQ⟩ := C
  intro H locs ls hP hS hl
  refine zx_run (vx_runU (As := As) (rest := rest) ⟨hx, hb, hml, hown, hts⟩ hM (va_cwU As.length hts (x_wsU h1 h2 h3 h4 h5 h6) rfl rfl rfl hyx hd ⟨hf, hlo⟩) ⟨zPc_blind, zrec_cell hr hc hU hP, fun U hU' hW => ⟨rfl, by rw [hU']; exact hP, hU.on hS hU' hW⟩⟩ rfl rfl (by rw [← hml]; exact hl.1) rfl (lv_room hsz) d ⟨hce, hsl⟩) hS hl kk kx
theorem zx_callO (C : ZC κ own nm cc nL ret rm P) (hκ : κ.1 = θ) (hκl : κ.2.2.1 = l) {ci b N9 : Nat} {T : u_T} (q : Nat) (hM : zMX θ l y (ws_ y cc' nL' ret') rm' (.ref b :: As) Pic P' PX') (d : decode cc pc = .ok (.invokevirtual idx, 3)) {b0 : ByteArray} {m0 : Nat} {r0 : Option FieldType} (h1 : Cond.methodLink own idx x ∈ lw_all) (h2 : Cond.sameMethod x.cls owner x.name x.desc ∈ lw_all) (h7 : Cond.instanceMethod ⟨owner, x.name, x.desc⟩ ∈ lw_all) (h8 : Cond.code ⟨owner, x.name, x.desc⟩ b0 m0 r0 ∈ lw_all) (h3 : Cond.selects Cn x y ∈ lw_all) (h4 : Cond.instanceMethod y ∈ lw_all) (h5 : Cond.initialized y.cls ∈ lw_all) (h6 : Cond.code y cc' nL' ret' ∈ lw_all) (hd : zNd x owner As.length)
    (hf : rm'.frames + 1 ≤ rm.frames) (hlo : 8 + (nL' + 11) + rm'.locals ≤ rm.locals) (hce : n + rm'.cells ≤ rm.cells) (hsl : k + rm'.slots ≤ rm.slots) (hr : zrec θ ci b Pic) (hc : zCl[ci]? = some (Cn, T, N9)) (hst : st = As.reverse ++ .ref b :: rest) (hsz : (rest.map fun v => v.category).sum ≤ 8) (hq : pc + 3 = q)
    (kk : ∀ (v : Option Value) (Pic1 : Heap → Prop), P' v Pic1 → Z κ Pic1 (n + rm'.cells) (k + rm'.slots) q lv (v.toList ++ rest))
    (kx : ∀ (E : String) (b9 : Nat) (Pic1 : Heap → Prop), PX' E b9 Pic1 → zX κ Pic1 (n + rm'.cells) (k + rm'.slots) pc lv b9 E) : Z κ Pic n k pc lv st := by
  subst hq; subst hst; subst hκ; subst hκl
  obtain ⟨θ, p, l, e, R, s, m, args, below, meth, c, Q⟩ := κ
  obtain ⟨hx, hb, hml, hown, hts, hU, hlk, hret, hnm, rfl, hQ⟩ := C
  intro H locs ls hP hS hl
  refine zx_run (vx_runU (As := As) (rest := rest) ⟨hx, hb, hml, hown, hts⟩ hM (va_cwO As.length hts (x_wsO h1 h2 h7 h3 h4 h5 h6) rfl rfl rfl h8 hd ⟨hf, hlo⟩) ⟨zPc_blind, zrec_cell hr hc hU hP, fun U hU' hW => ⟨rfl, by rw [hU']; exact hP, hU.on hS hU' hW⟩⟩ rfl rfl (by rw [← hml]; exact hl.1) rfl (lv_room hsz) d ⟨hce, hsl⟩) hS hl kk kx
theorem zx_callVN (C : ZC κ own nm cc nL ret rm P) (hκ : κ.1 = θ) (hκl : κ.2.2.1 = l) {ci b N9 : Nat} {T : u_T} {host : String} (hT : zTb θ) (q : Nat) (hM : zMX θ l y (ws_ y cc' nL' ret') rm' (.ref b :: As) Pic P' PX') (d : decode cc pc = .ok (.invokevirtual idx, 3)) (h1 : Cond.methodLinkNest own idx y host ∈ lw_tbl) (h2 : Cond.instanceMethod y ∈ lw_all) (h3 : Cond.selects Cn y y ∈ lw_all) (h5 : Cond.initialized y.cls ∈ lw_all) (h6 : Cond.code y cc' nL' ret' ∈ lw_all) (hd : zNd y y.cls As.length)
    (hf : rm'.frames + 1 ≤ rm.frames) (hlo : 8 + (nL' + 11) + rm'.locals ≤ rm.locals) (hce : n + rm'.cells ≤ rm.cells) (hsl : k + rm'.slots ≤ rm.slots) (hr : zrec θ ci b Pic) (hc : zCl[ci]? = some (Cn, T, N9)) (hst : st = As.reverse ++ .ref b :: rest) (hsz : (rest.map fun v => v.category).sum ≤ 8) (hq : pc + 3 = q)
    (kk : ∀ (v : Option Value) (Pic1 : Heap → Prop), P' v Pic1 → Z κ Pic1 (n + rm'.cells) (k + rm'.slots) q lv (v.toList ++ rest))
    (kx : ∀ (E : String) (b9 : Nat) (Pic1 : Heap → Prop), PX' E b9 Pic1 → zX κ Pic1 (n + rm'.cells) (k + rm'.slots) pc lv b9 E) : Z κ Pic n k pc lv st := by
  subst hq; subst hst; subst hκ; subst hκl
  obtain ⟨θ, p, l, e, R, s, m, args, below, meth, c, Q⟩ := κ
  obtain ⟨hx, hb, hml, hown, hts, hU, hlk, hret, hnm, rfl, hQ⟩ := C
  intro H locs ls hP hS hl
  refine zx_run (vx_runVN (As := As) (rest := rest) ⟨hx, hb, hml, hown, hts⟩ hM ⟨va_cnB As.length hts (lw_meth h6) rfl rfl rfl (hT.mlink hU h1) (hts _ h5) hd ⟨hf, hlo⟩, hts _ h2, hts _ h3⟩ ⟨zPc_blind, zrec_cell hr hc hU hP, fun U hU' hW => ⟨rfl, by rw [hU']; exact hP, hU.on hS hU' hW⟩⟩ rfl rfl (by rw [← hml]; exact hl.1) rfl (lv_room hsz) d ⟨hce, hsl⟩) hS hl kk kx
theorem zx_callSN (C : ZC κ own nm cc nL ret rm P) (hκ : κ.1 = θ) (hκl : κ.2.2.1 = l) {host : String} (hT : zTb θ) (q : Nat) (hM : zMX θ l y (ws_ y cc' nL' ret') rm' As Pic P' PX') (d : decode cc pc = .ok (.invokestatic idx, 3)) (h1 : Cond.methodLinkNest own idx y host ∈ lw_tbl) (h2 : Cond.static y ∈ lw_all) (h5 : Cond.initialized y.cls ∈ lw_all) (h6 : Cond.code y cc' nL' ret' ∈ lw_all) (hd : zNd y y.cls As.length)
    (hf : rm'.frames + 1 ≤ rm.frames) (hlo : 8 + (nL' + 11) + rm'.locals ≤ rm.locals) (hce : n + rm'.cells ≤ rm.cells) (hsl : k + rm'.slots ≤ rm.slots) (hst : st = As.reverse ++ rest) (hsz : (rest.map fun v => v.category).sum ≤ 8) (hq : pc + 3 = q)
    (kk : ∀ (v : Option Value) (Pic1 : Heap → Prop), P' v Pic1 → Z κ Pic1 (n + rm'.cells) (k + rm'.slots) q lv (v.toList ++ rest))
    (kx : ∀ (E : String) (b9 : Nat) (Pic1 : Heap → Prop), PX' E b9 Pic1 → zX κ Pic1 (n + rm'.cells) (k + rm'.slots) pc lv b9 E) : Z κ Pic n k pc lv st := by
  subst hq; subst hst; subst hκ; subst hκl
  obtain ⟨θ, p, l, e, R, s, m, args, below, meth, c, Q⟩ := κ
  obtain ⟨hx, hb, hml, hown, hts, hU, hlk, hret, hnm, rfl, hQ⟩ := C
  intro H locs ls hP hS hl
  refine zx_run (vx_runSN (As := As) (rest := rest) ⟨hx, hb, hml, hown, hts⟩ hM ⟨va_cnB As.length hts (lw_meth h6) rfl rfl rfl (hT.mlink hU h1) (hts _ h5) hd ⟨hf, hlo⟩, hts _ h2, trivial⟩ ⟨zPc_blind, fun U hU' hW => ⟨rfl, by rw [hU']; exact hP, hU.on hS hU' hW⟩⟩ rfl rfl (by rw [← hml]; exact hl.1) rfl (lv_room hsz) d ⟨hce, hsl⟩) hS hl kk kx
theorem zx_callVW (C : ZC κ own nm cc nL ret rm P) (hκ : κ.1 = θ) (hκl : κ.2.2.1 = l) {hh' : List (Nat × Nat × Nat × Nat)} {ci b N9 : Nat} {T : u_T} (q : Nat) (hM : zMX θ l y (wsW_ y cc' nL' ret' hh') rm' (.ref b :: As) Pic P' PX') (d : decode cc pc = .ok (.invokevirtual idx, 3)) (h1 : Cond.methodLink own idx y ∈ lw_all) (h2 : Cond.instanceMethod y ∈ lw_all) (h3 : Cond.selects Cn y y ∈ lw_all) (h4 : Cond.initialized Cn ∈ lw_all) (h5 : Cond.codeWith y cc' nL' ret' hh' ∈ lw_all) (hd : zNm y Cn As.length)
    (hf : rm'.frames + 1 ≤ rm.frames) (hlo : 8 + (nL' + 11) + rm'.locals ≤ rm.locals) (hce : n + rm'.cells ≤ rm.cells) (hsl : k + rm'.slots ≤ rm.slots) (hr : zrec θ ci b Pic) (hc : zCl[ci]? = some (Cn, T, N9)) (hst : st = As.reverse ++ .ref b :: rest) (hsz : (rest.map fun v => v.category).sum ≤ 8) (hq : pc + 3 = q)
    (kk : ∀ (v : Option Value) (Pic1 : Heap → Prop), P' v Pic1 → Z κ Pic1 (n + rm'.cells) (k + rm'.slots) q lv (v.toList ++ rest))
    (kx : ∀ (E : String) (b9 : Nat) (Pic1 : Heap → Prop), PX' E b9 Pic1 → zX κ Pic1 (n + rm'.cells) (k + rm'.slots) pc lv b9 E) : Z κ Pic n k pc lv st := by
  subst hq; subst hst; subst hκ; subst hκl
  obtain ⟨θ, p, l, e, R, s, m, args, below, meth, c, Q⟩ := κ
  obtain ⟨hx, hb, hml, hown, hts, hU, hlk, hret, hnm, rfl, hQ⟩ := C
  intro H locs ls hP hS hl
  refine zx_run (vx_runVX (As := As) (rest := rest) ⟨hx, hb, hml, hown, hts⟩ hM (vx_cwVW As.length hts (lw_VW h1 h2 h3 h4 h5) rfl rfl rfl hd ⟨hf, hlo⟩) ⟨zPc_blind, zrec_cell hr hc hU hP, fun U hU' hW => ⟨rfl, by rw [hU']; exact hP, hU.on hS hU' hW⟩⟩ rfl rfl (by rw [← hml]; exact hl.1) rfl (lv_room hsz) d ⟨hce, hsl⟩) hS hl kk kx
end ZXCallRows
/-! ===== what the machine throws by itself ===== -/
def zTx (θ : zTh) (l : Launch) : Prop := l.stackTraces = false ∧ vx_Zq Bundle.tN "UNASSIGNED_STACK" Bundle.steD (zA θ) θ.2.2 θ.2.2.heap ∧ vx_Zq Bundle.tN "SUPPRESSED_SENTINEL" Bundle.listD (zA θ) θ.2.2 θ.2.2.heap ∧ modulesRight_1 θ.2.2 = true
theorem zTx.U {θ : zTh} {l : Launch} {s : State} (h : zTx θ l) (hU : zU θ s) : vx_Zq Bundle.tN "UNASSIGNED_STACK" Bundle.steD (zA θ) s s.heap := vx_Zq.moved hU.1.alike (h.2.1.kept (fun a h1 _ => hU.2.2.1 a h1))
theorem zTx.N {θ : zTh} {l : Launch} {s : State} (h : zTx θ l) (hU : zU θ s) : vx_Zq Bundle.tN "SUPPRESSED_SENTINEL" Bundle.listD (zA θ) s s.heap := vx_Zq.moved hU.1.alike (h.2.2.1.kept (fun a h1 _ => hU.2.2.1 a h1))
def xAt (w : Cond) : Prop := w ∈ lw_all ∨ (∃ C T, w = .castable C T ∧ w ∈ lw_tbl) ∨ ∃ x, w = .declares x ∧ w ∈ lw_tbl
theorem xat_use {θ : zTh} {s : State} {args : Array Value} {w : Cond} (hT : zTb θ) (hU : zU θ s) (hts : ∀ w ∈ lw_all, w.before args s = true) (h : xAt w) : w.before args s = true ∧ vx_ot w = true := by
  rcases h with h | ⟨C, T, rfl, h⟩ | ⟨x, rfl, h⟩
  · exact ⟨hts _ h, by unfold vx_ot; rw [(List.mem_filter.mp h).2, Bool.or_true]⟩
  · exact ⟨va_Nw.use rfl (hT.cast hU h), rfl⟩
  · exact ⟨va_Nw.use rfl (hT.decl hU h), rfl⟩
theorem zP.grow {θ : zTh} {M N : zMap} {H H1 : Heap} (hP : zP θ M N H) (h : ∀ q : Nat, q < H.size → H1[q]? = H[q]?) : zP θ M N H1 :=
  ⟨fun a e ha => ⟨(hP.1 a e ha).1.kept (h a (hP.1 a e ha).1.lt), (hP.1 a e ha).2⟩, fun a e ha => ⟨(hP.2.1 a e ha).1.kept (h a (hP.2.1 a e ha).1.lt), (hP.2.1 a e ha).2⟩, hP.2.2⟩
section ZNote
variable {θ : zTh} {p : Program} {l : Launch} {e : Env} {R : Room} {s : State} {m : MethodId} {args : Array Value} {below : List Frame} {meth : Method} {c : Code} {Q : State → Prop} {M N : zMap} {H : Heap} {locs : List Loc} {n k pc : Nat} {ls : Array Slot} {lv : List (Nat × Value)} {rest : List Value}
theorem zx_vm {cls text : String} {names : List String} {nb : Nat} (hx : p.tables.exec = Jvm.exec) (hts : ∀ w ∈ lw_all, w.before args s = true) (hU : zU θ s) (hlk : meth.locks = false) (hT : zTb θ) (hZ : zTx θ l) (hcls : Bundle.fit cls = true) (hnames : ∀ n ∈ names, Bundle.fit n = true) (hsoe : (cls == "java/lang/StackOverflowError") = false) (hoom : (cls == "java/lang/OutOfMemoryError") = false)
    (ha : ∀ w ∈ vx_atM cls names, xAt w) (hP : zP θ M N H) (hS : va_S (zA θ) s.heap H locs) (hl : lv_has ls c.maxLocals lv) (htext : (text == notModelled) = false) (hnb : (stringBytes (stringToUtf16 text)).size ≤ nb) (hnb1 : nb ≤ 1000) (hf : names.length + 4 < R.frames) (hlo : 10250 ≤ R.locals) (hsz : (rest.map fun v => v.category).sum ≤ 10) (hshort : 13 * names.length + 55 ≤ 10240) (hce : n + 3 ≤ R.cells) (hsl : k + (nb + 10) ≤ R.slots)
    (kx : ∀ b : Nat, zX (θ, p, l, e, R, s, m, args, below, meth, c, Q) (zP θ M N) (n + 3) (k + (nb + 10)) pc lv b cls) : vx_Note p l e R s m args below meth c H locs n k Q (F0 m pc ls rest) cls text :=
  vx_vm hx hZ.1 hcls hnames hsoe hoom (fun w hw => (xat_use hT hU hts (ha w hw)).1) (fun w hw => (xat_use (args := args) hT hU hts (ha w hw)).2) (hZ.U hU) (hZ.N hU) hS hl.1 htext hnb hnb1 hf (by omega) hshort hce hsl hlk
    (fun H1 q9 ce h1 h2 h3 h4 h5 h6 => kx q9 H1 locs ls ce rest (hP.grow h2) h3 hl h4 h5 h6)
theorem zx_npe (hx : p.tables.exec = Jvm.exec) (hts : ∀ w ∈ lw_all, w.before args s = true) (hU : zU θ s) (hlk : meth.locks = false) (hT : zTb θ) (hZ : zTx θ l) (ha : ∀ w ∈ vx_atN 8, xAt w) (hP : zP θ M N H) (hS : va_S (zA θ) s.heap H locs) (hl : lv_has ls c.maxLocals lv) (hf : 7 < R.frames) (hlo : 10250 ≤ R.locals) (hsz : (rest.map fun v => v.category).sum ≤ 10) (hce : n + 1 ≤ R.cells) (hsl : k + 8 ≤ R.slots)
    (kx : ∀ b : Nat, zX (θ, p, l, e, R, s, m, args, below, meth, c, Q) (zP θ M N) (n + 1) (k + 8) pc lv b "java/lang/NullPointerException") : vx_NoteN p l e R s m args below meth c H locs n k Q (F0 m pc ls rest) :=
  vx_npe hx hZ.1 (fun w hw => (xat_use hT hU hts (ha w hw)).1) (fun w hw => (xat_use (args := args) hT hU hts (ha w hw)).2) (hZ.U hU) (hZ.N hU) hS hl.1 hf (by omega) hce hsl hlk
    (fun H1 q9 ce h1 h2 h3 h4 h5 h6 => kx q9 H1 locs ls ce rest (hP.grow h2) h3 hl h4 h5 h6)
end ZNote
theorem xat_N : ∀ w ∈ vx_atN 8, xAt w := by
  intro w hw
  obtain ⟨h1, h2⟩ := List.mem_filter.mp hw
  simp only [Bundle.npeArmAtoms, Bundle.messageArmAtoms, Bundle.ownAtoms0, Bundle.throwableAtoms, Bundle.throwableSAtoms, Bundle.chainSAtoms, Bundle.chain0Atoms, Bundle.stringAtoms, Bundle.npeAtoms, Bundle.passAtoms, Bundle.passSAtoms, List.mem_append, List.mem_cons, List.not_mem_nil, or_false] at h1
  repeat' (refine Or.elim h1 (fun h1 => ?_) (fun h1 => ?_))
  all_goals subst h1
  all_goals first
    | exact Or.inr (Or.inl ⟨_, _, rfl, q2621⟩)
    | exact Or.inl q1423
    | exact Or.inl q1440
    | exact Or.inl q1323
    | exact Or.inl q1424
    | exact Or.inl q1425
    | exact Or.inl q1426
    | exact Or.inl q1427
    | exact Or.inl q1428
    | exact Or.inl q1429
    | exact Or.inl q1434
    | exact Or.inr (Or.inl ⟨_, _, rfl, q2613⟩)
    | exact Or.inl q1324
    | exact Or.inl q1445
    | exact Or.inl q1446
    | exact Or.inl q1447
    | exact Or.inl q1448
    | exact Or.inl q1449
    | exact Or.inl q1450
    | exact Or.inl q1451
    | exact Or.inl q1452
    | exact Or.inl q1454
    | exact Or.inl q1686
    | exact Or.inr (Or.inl ⟨_, _, rfl, q2614⟩)
    | exact Or.inl q1327
    | exact Or.inl q1459
    | exact Or.inl q1460
    | exact Or.inl q1461
    | exact Or.inl q1462
    | exact Or.inl q1463
    | exact Or.inl q1464
    | exact Or.inl q1465
    | exact Or.inl q1466
    | exact Or.inl q1468
    | exact Or.inr (Or.inl ⟨_, _, rfl, q2615⟩)
    | exact Or.inl q1325
    | exact Or.inl q1473
    | exact Or.inl q1474
    | exact Or.inl q1475
    | exact Or.inl q1476
    | exact Or.inl q1477
    | exact Or.inl q1478
    | exact Or.inl q1479
    | exact Or.inl q1480
    | exact Or.inl q1482
    | exact Or.inr (Or.inl ⟨_, _, rfl, q2616⟩)
    | exact Or.inr (Or.inl ⟨_, _, rfl, q2628⟩)
    | exact Or.inr (Or.inl ⟨_, _, rfl, q2629⟩)
    | exact Or.inl q1900
    | exact Or.inl q1901
    | exact Or.inl q145
    | exact Or.inl q146
    | exact Or.inr (Or.inl ⟨_, _, rfl, q2622⟩)
    | exact Or.inr (Or.inl ⟨_, _, rfl, q2623⟩)
    | exact Or.inr (Or.inl ⟨_, _, rfl, q2624⟩)
    | exact Or.inr (Or.inl ⟨_, _, rfl, q2625⟩)
    | exact Or.inr (Or.inl ⟨_, _, rfl, q2626⟩)
    | exact Or.inr (Or.inl ⟨_, _, rfl, q2627⟩)
    | exact Or.inl q120
    | exact Or.inl q1312
    | exact Or.inl q1313
    | exact Or.inl q1314
    | exact Or.inl q1315
    | exact Or.inl q1317
    | exact Or.inl q1319
    | exact Or.inl q1320
    | exact Or.inl q1321
    | exact Or.inr (Or.inr ⟨_, rfl, q1337⟩)
    | exact Or.inl q1341
    | exact Or.inl q1342
    | exact Or.inl q1344
    | exact Or.inl q1345
    | exact Or.inl q1346
    | exact Or.inl q1383
    | exact Or.inl q1350
    | exact Or.inl q1351
    | exact Or.inl q1352
    | exact Or.inl q1353
    | exact Or.inl q1359
    | exact Or.inl q1361
    | exact Or.inl q1363
    | exact Or.inl q1365
    | exact Or.inl q1367
    | exact Or.inl q1369
    | exact Or.inr (Or.inr ⟨_, rfl, q1375⟩)
    | exact Or.inr (Or.inr ⟨_, rfl, q1376⟩)
    | exact Or.inl q1378
    | exact Or.inl q1379
    | exact Or.inl q1380
    | exact Or.inl q1381
    | exact Or.inl q1382
    | exact Or.inl q1384
    | exact Or.inl q1397
    | exact Or.inl q1398
    | exact Or.inl q1510
    | exact Or.inl q1511
    | exact Or.inl q2584
    | exact Or.inr (Or.inl ⟨_, _, rfl, q2620⟩)
    | exact Or.inl q121
    | exact Or.inl q1309
    | exact Or.inl q1310
    | exact Or.inl q1311
    | exact Or.inl q1340
    | exact Or.inr (Or.inr ⟨_, rfl, q1373⟩)
    | exact Or.inr (Or.inr ⟨_, rfl, q1374⟩)
    | exact Or.inl q1394
    | exact Or.inl q1395
    | exact Or.inl q1396
    | exact Or.inl q1507
    | exact Or.inl q1508
    | exact Or.inl q1509
    | exact Or.inl q122
    | exact Or.inl q1306
    | exact Or.inl q1307
    | exact Or.inl q1308
    | exact Or.inl q1336
    | exact Or.inl q1339
    | exact Or.inr (Or.inr ⟨_, rfl, q1371⟩)
    | exact Or.inr (Or.inr ⟨_, rfl, q1372⟩)
    | exact Or.inr (Or.inl ⟨_, _, rfl, q1385⟩)
    | exact Or.inl q1391
    | exact Or.inl q1392
    | exact Or.inl q1393
    | exact Or.inl q123
    | exact Or.inl q1302
    | exact Or.inl q1303
    | exact Or.inl q1304
    | exact Or.inl q1305
    | exact Or.inl q1328
    | exact Or.inl q1329
    | exact Or.inl q1330
    | exact Or.inl q1331
    | exact Or.inl q1333
    | exact Or.inl q1334
    | exact Or.inl q1335
    | exact Or.inl q1338
    | exact Or.inl q1347
    | exact Or.inl q1348
    | exact Or.inl q1354
    | exact Or.inl q1355
    | exact Or.inl q1356
    | exact Or.inl q1357
    | exact Or.inl q1358
    | exact Or.inl q1360
    | exact Or.inl q1362
    | exact Or.inl q1364
    | exact Or.inl q1366
    | exact Or.inl q1368
    | exact Or.inr (Or.inl ⟨_, _, rfl, q1370⟩)
    | exact Or.inl q1377
    | exact Or.inr (Or.inl ⟨_, _, rfl, q2611⟩)
    | exact Or.inl q1326
    | exact Or.inl q1390
    | exact Or.inl q1399
    | exact Or.inl q1400
    | exact Or.inl q1401
    | exact Or.inl q1402
    | exact Or.inl q1403
    | exact Or.inl q1404
    | exact Or.inl q1405
    | exact Or.inl q1407
    | exact Or.inl q1415
    | exact Or.inr (Or.inl ⟨_, _, rfl, q2612⟩)
    | exact Or.inl q144
    | exact Or.inl q369
    | exact Or.inl q1301
    | exact Or.inr (Or.inl ⟨_, _, rfl, q2590⟩)
    | exact Or.inl q160
    | exact Or.inl q164
    | exact Or.inr (Or.inl ⟨_, _, rfl, q2591⟩)
    | exact Or.inl q770
    | exact Or.inr (Or.inl ⟨_, _, rfl, q2599⟩)
    | exact Or.inr (Or.inl ⟨_, _, rfl, q2600⟩)
    | exact Or.inr (Or.inl ⟨_, _, rfl, q2601⟩)
    | exact Or.inr (Or.inl ⟨_, _, rfl, q2602⟩)
    | exact Or.inr (Or.inl ⟨_, _, rfl, q2603⟩)
    | exact Or.inr (Or.inl ⟨_, _, rfl, q2604⟩)
    | exact Or.inr (Or.inl ⟨_, _, rfl, q2605⟩)
    | exact Or.inr (Or.inl ⟨_, _, rfl, q2606⟩)
    | exact Or.inl q916
    | exact Or.inl q173
    | exact Or.inl q474
    | exact Or.inr (Or.inl ⟨_, _, rfl, q2607⟩)
    | exact Or.inr (Or.inl ⟨_, _, rfl, q2608⟩)
    | exact Or.inr (Or.inl ⟨_, _, rfl, q2609⟩)
    | exact Or.inl q1265
    | exact Or.inl q1266
    | exact Or.inr (Or.inl ⟨_, _, rfl, q2610⟩)
    | exact Or.inl q1322
    | exact Or.inl q1497
    | exact Or.inl q1498
    | exact Or.inl q1499
    | exact Or.inl q1500
    | exact Or.inl q1501
    | exact Or.inl q1502
    | exact Or.inl q1506
    | exact Or.inl q1516
    | exact Or.inl q1517
    | exact Or.inr (Or.inl ⟨_, _, rfl, q2617⟩)
    | exact Or.inl q1737
    | exact Or.inl q1763
    | exact Or.inr (Or.inl ⟨_, _, rfl, q2618⟩)
    | exact Or.inr (Or.inl ⟨_, _, rfl, q2619⟩)
    | exact Or.inr (Or.inl ⟨_, _, rfl, q2592⟩)
    | exact Or.inr (Or.inl ⟨_, _, rfl, q2596⟩)
    | exact Or.inr (Or.inl ⟨_, _, rfl, q2593⟩)
    | exact Or.inl q245
    | exact Or.inl q261
    | exact Or.inr (Or.inl ⟨_, _, rfl, q2594⟩)
    | exact Or.inl q1974
    | exact Or.inl q2151
    | exact Or.inr (Or.inl ⟨_, _, rfl, q2595⟩)
    | exact Or.inr (Or.inl ⟨_, _, rfl, q2597⟩)
    | exact Or.inl q651
    | exact Or.inl q710
    | exact Or.inr (Or.inl ⟨_, _, rfl, q2598⟩)
    | exact Or.inr (Or.inl ⟨_, _, rfl, q2639⟩)
    | exact Or.inr (Or.inl ⟨_, _, rfl, q2642⟩)
    | exact Or.inr (Or.inl ⟨_, _, rfl, q2647⟩)
    | exact Or.inr (Or.inl ⟨_, _, rfl, q2646⟩)
    | exact Or.inr (Or.inl ⟨_, _, rfl, q2644⟩)
    | exact Or.inr (Or.inl ⟨_, _, rfl, q2645⟩)
    | exact Or.inr (Or.inl ⟨_, _, rfl, q2637⟩)
    | exact Or.inr (Or.inl ⟨_, _, rfl, q2641⟩)
    | exact Or.inr (Or.inl ⟨_, _, rfl, q2635⟩)
    | exact Or.inr (Or.inl ⟨_, _, rfl, q2640⟩)
    | exact Or.inr (Or.inl ⟨_, _, rfl, q2636⟩)
    | exact Or.inr (Or.inl ⟨_, _, rfl, q2634⟩)
    | exact Or.inr (Or.inl ⟨_, _, rfl, q2648⟩)
    | exact Or.inr (Or.inl ⟨_, _, rfl, q2643⟩)
    | exact Or.inr (Or.inl ⟨_, _, rfl, q2638⟩)
    | exact Or.inl q1637
    | exact Or.inl q216
    | exact Or.inl q636
    | exact Or.inl q739
    | exact Or.inl q740
    | exact Or.inl q741
    | exact Or.inl q742
    | exact Or.inl q743
    | exact Or.inl q744
    | exact Or.inl qs16
    | exact Or.inl qs17
    | exact absurd h2 (by decide)
theorem xat_I : ∀ w ∈ vx_atM "java/lang/IllegalArgumentException" ["java/lang/RuntimeException", "java/lang/Exception"], xAt w := by
  intro w hw
  obtain ⟨h1, h2⟩ := List.mem_filter.mp hw
  simp only [Bundle.npeArmAtoms, Bundle.messageArmAtoms, Bundle.ownAtoms0, Bundle.throwableAtoms, Bundle.throwableSAtoms, Bundle.chainSAtoms, Bundle.chain0Atoms, Bundle.stringAtoms, Bundle.npeAtoms, Bundle.passAtoms, Bundle.passSAtoms, List.mem_append, List.mem_cons, List.not_mem_nil, or_false] at h1
  repeat' (refine Or.elim h1 (fun h1 => ?_) (fun h1 => ?_))
  all_goals subst h1
  all_goals first
    | exact Or.inl q99
    | exact Or.inl q597
    | exact Or.inl q598
    | exact Or.inl q599
    | exact Or.inl q600
    | exact Or.inl q601
    | exact Or.inl q602
    | exact Or.inl q603
    | exact Or.inl q604
    | exact Or.inl q606
    | exact Or.inl q610
    | exact Or.inl q611
    | exact Or.inl q612
    | exact Or.inl q614
    | exact Or.inl q617
    | exact Or.inl q1408
    | exact Or.inl q1409
    | exact Or.inl q1410
    | exact Or.inl q1411
    | exact Or.inl q1412
    | exact Or.inr (Or.inl ⟨_, _, rfl, q2621⟩)
    | exact Or.inl q2649
    | exact Or.inl q2650
    | exact Or.inl q609
    | exact Or.inl q1423
    | exact Or.inl q1440
    | exact Or.inl q1323
    | exact Or.inl q1424
    | exact Or.inl q1425
    | exact Or.inl q1426
    | exact Or.inl q1427
    | exact Or.inl q1428
    | exact Or.inl q1429
    | exact Or.inl q1434
    | exact Or.inr (Or.inl ⟨_, _, rfl, q2613⟩)
    | exact Or.inl q1324
    | exact Or.inl q1445
    | exact Or.inl q1446
    | exact Or.inl q1447
    | exact Or.inl q1448
    | exact Or.inl q1449
    | exact Or.inl q1450
    | exact Or.inl q1451
    | exact Or.inl q1452
    | exact Or.inl q1454
    | exact Or.inl q1686
    | exact Or.inr (Or.inl ⟨_, _, rfl, q2614⟩)
    | exact Or.inl q1327
    | exact Or.inl q1459
    | exact Or.inl q1460
    | exact Or.inl q1461
    | exact Or.inl q1462
    | exact Or.inl q1463
    | exact Or.inl q1464
    | exact Or.inl q1465
    | exact Or.inl q1466
    | exact Or.inl q1468
    | exact Or.inr (Or.inl ⟨_, _, rfl, q2615⟩)
    | exact Or.inl q1325
    | exact Or.inl q1473
    | exact Or.inl q1474
    | exact Or.inl q1475
    | exact Or.inl q1476
    | exact Or.inl q1477
    | exact Or.inl q1478
    | exact Or.inl q1479
    | exact Or.inl q1480
    | exact Or.inl q1482
    | exact Or.inr (Or.inl ⟨_, _, rfl, q2616⟩)
    | exact Or.inr (Or.inl ⟨_, _, rfl, q2628⟩)
    | exact Or.inr (Or.inl ⟨_, _, rfl, q2629⟩)
    | exact Or.inl q145
    | exact Or.inl q146
    | exact Or.inr (Or.inl ⟨_, _, rfl, q2622⟩)
    | exact Or.inr (Or.inl ⟨_, _, rfl, q2623⟩)
    | exact Or.inr (Or.inl ⟨_, _, rfl, q2624⟩)
    | exact Or.inr (Or.inl ⟨_, _, rfl, q2625⟩)
    | exact Or.inr (Or.inl ⟨_, _, rfl, q2626⟩)
    | exact Or.inr (Or.inl ⟨_, _, rfl, q2627⟩)
    | exact Or.inl q626
    | exact Or.inl q120
    | exact Or.inl q1312
    | exact Or.inl q1313
    | exact Or.inl q1314
    | exact Or.inl q1315
    | exact Or.inl q1317
    | exact Or.inl q1319
    | exact Or.inl q1320
    | exact Or.inl q1321
    | exact Or.inr (Or.inr ⟨_, rfl, q1337⟩)
    | exact Or.inl q1341
    | exact Or.inl q1342
    | exact Or.inl q1344
    | exact Or.inl q1345
    | exact Or.inl q1346
    | exact Or.inl q1383
    | exact Or.inl q1350
    | exact Or.inl q1351
    | exact Or.inl q1352
    | exact Or.inl q1353
    | exact Or.inl q1359
    | exact Or.inl q1361
    | exact Or.inl q1363
    | exact Or.inl q1365
    | exact Or.inl q1367
    | exact Or.inl q1369
    | exact Or.inr (Or.inr ⟨_, rfl, q1375⟩)
    | exact Or.inr (Or.inr ⟨_, rfl, q1376⟩)
    | exact Or.inl q1378
    | exact Or.inl q1379
    | exact Or.inl q1380
    | exact Or.inl q1381
    | exact Or.inl q1382
    | exact Or.inl q1384
    | exact Or.inl q1397
    | exact Or.inl q1398
    | exact Or.inl q1510
    | exact Or.inl q1511
    | exact Or.inl q2584
    | exact Or.inr (Or.inl ⟨_, _, rfl, q2620⟩)
    | exact Or.inl q121
    | exact Or.inl q1309
    | exact Or.inl q1310
    | exact Or.inl q1311
    | exact Or.inl q1340
    | exact Or.inr (Or.inr ⟨_, rfl, q1373⟩)
    | exact Or.inr (Or.inr ⟨_, rfl, q1374⟩)
    | exact Or.inl q1394
    | exact Or.inl q1395
    | exact Or.inl q1396
    | exact Or.inl q1507
    | exact Or.inl q1508
    | exact Or.inl q1509
    | exact Or.inl q122
    | exact Or.inl q1306
    | exact Or.inl q1307
    | exact Or.inl q1308
    | exact Or.inl q1336
    | exact Or.inl q1339
    | exact Or.inr (Or.inr ⟨_, rfl, q1371⟩)
    | exact Or.inr (Or.inr ⟨_, rfl, q1372⟩)
    | exact Or.inr (Or.inl ⟨_, _, rfl, q1385⟩)
    | exact Or.inl q1391
    | exact Or.inl q1392
    | exact Or.inl q1393
    | exact Or.inl q1305
    | exact Or.inl q1328
    | exact Or.inl q1335
    | exact Or.inl q1338
    | exact Or.inl q1358
    | exact Or.inl q1360
    | exact Or.inl q1362
    | exact Or.inl q1364
    | exact Or.inl q1366
    | exact Or.inl q1368
    | exact Or.inl q1377
    | exact Or.inr (Or.inl ⟨_, _, rfl, q2611⟩)
    | exact Or.inl q124
    | exact Or.inl q1326
    | exact Or.inl q1387
    | exact Or.inl q1388
    | exact Or.inl q1389
    | exact Or.inl q1390
    | exact Or.inl q1399
    | exact Or.inl q1400
    | exact Or.inl q1401
    | exact Or.inl q1402
    | exact Or.inl q1403
    | exact Or.inl q1404
    | exact Or.inl q1405
    | exact Or.inr (Or.inl ⟨_, _, rfl, q1406⟩)
    | exact Or.inl q1407
    | exact Or.inl q1413
    | exact Or.inl q1414
    | exact Or.inl q1415
    | exact Or.inr (Or.inl ⟨_, _, rfl, q2612⟩)
    | exact Or.inl q144
    | exact Or.inl q369
    | exact Or.inl q596
    | exact Or.inl q1386
    | exact Or.inl q1522
    | exact Or.inr (Or.inl ⟨_, _, rfl, q2590⟩)
    | exact Or.inl q160
    | exact Or.inl q164
    | exact Or.inr (Or.inl ⟨_, _, rfl, q2591⟩)
    | exact Or.inl q770
    | exact Or.inr (Or.inl ⟨_, _, rfl, q2599⟩)
    | exact Or.inr (Or.inl ⟨_, _, rfl, q2600⟩)
    | exact Or.inr (Or.inl ⟨_, _, rfl, q2601⟩)
    | exact Or.inr (Or.inl ⟨_, _, rfl, q2602⟩)
    | exact Or.inr (Or.inl ⟨_, _, rfl, q2603⟩)
    | exact Or.inr (Or.inl ⟨_, _, rfl, q2604⟩)
    | exact Or.inr (Or.inl ⟨_, _, rfl, q2605⟩)
    | exact Or.inr (Or.inl ⟨_, _, rfl, q2606⟩)
    | exact Or.inl q916
    | exact Or.inl q173
    | exact Or.inl q474
    | exact Or.inr (Or.inl ⟨_, _, rfl, q2607⟩)
    | exact Or.inr (Or.inl ⟨_, _, rfl, q2608⟩)
    | exact Or.inr (Or.inl ⟨_, _, rfl, q2609⟩)
    | exact Or.inl q1265
    | exact Or.inl q1266
    | exact Or.inr (Or.inl ⟨_, _, rfl, q2610⟩)
    | exact Or.inl q1322
    | exact Or.inl q1497
    | exact Or.inl q1498
    | exact Or.inl q1499
    | exact Or.inl q1500
    | exact Or.inl q1501
    | exact Or.inl q1502
    | exact Or.inl q1506
    | exact Or.inl q1516
    | exact Or.inl q1517
    | exact Or.inr (Or.inl ⟨_, _, rfl, q2617⟩)
    | exact Or.inl q1737
    | exact Or.inl q1763
    | exact Or.inr (Or.inl ⟨_, _, rfl, q2618⟩)
    | exact Or.inr (Or.inl ⟨_, _, rfl, q2619⟩)
    | exact Or.inr (Or.inl ⟨_, _, rfl, q2592⟩)
    | exact Or.inr (Or.inl ⟨_, _, rfl, q2596⟩)
    | exact Or.inr (Or.inl ⟨_, _, rfl, q2593⟩)
    | exact Or.inl q245
    | exact Or.inl q261
    | exact Or.inr (Or.inl ⟨_, _, rfl, q2594⟩)
    | exact Or.inl q1974
    | exact Or.inl q2151
    | exact Or.inr (Or.inl ⟨_, _, rfl, q2595⟩)
    | exact Or.inr (Or.inl ⟨_, _, rfl, q2597⟩)
    | exact Or.inl q651
    | exact Or.inl q710
    | exact Or.inr (Or.inl ⟨_, _, rfl, q2598⟩)
    | exact Or.inr (Or.inl ⟨_, _, rfl, q2639⟩)
    | exact Or.inr (Or.inl ⟨_, _, rfl, q2642⟩)
    | exact Or.inr (Or.inl ⟨_, _, rfl, q2647⟩)
    | exact Or.inr (Or.inl ⟨_, _, rfl, q2646⟩)
    | exact Or.inr (Or.inl ⟨_, _, rfl, q2644⟩)
    | exact Or.inr (Or.inl ⟨_, _, rfl, q2645⟩)
    | exact Or.inr (Or.inl ⟨_, _, rfl, q2637⟩)
    | exact Or.inr (Or.inl ⟨_, _, rfl, q2641⟩)
    | exact Or.inr (Or.inl ⟨_, _, rfl, q2635⟩)
    | exact Or.inr (Or.inl ⟨_, _, rfl, q2640⟩)
    | exact Or.inr (Or.inl ⟨_, _, rfl, q2636⟩)
    | exact Or.inr (Or.inl ⟨_, _, rfl, q2634⟩)
    | exact Or.inr (Or.inl ⟨_, _, rfl, q2648⟩)
    | exact Or.inr (Or.inl ⟨_, _, rfl, q2643⟩)
    | exact Or.inr (Or.inl ⟨_, _, rfl, q2638⟩)
    | exact Or.inl q1637
    | exact Or.inl q216
    | exact Or.inl q636
    | exact Or.inl q739
    | exact Or.inl q740
    | exact Or.inl q741
    | exact Or.inl q742
    | exact Or.inl q743
    | exact Or.inl q744
    | exact Or.inl qs17
    | exact absurd h2 (by decide)
theorem xat_A : ∀ w ∈ vx_atM "java/lang/ArrayIndexOutOfBoundsException" ["java/lang/IndexOutOfBoundsException", "java/lang/RuntimeException", "java/lang/Exception"], xAt w := by
  intro w hw
  obtain ⟨h1, h2⟩ := List.mem_filter.mp hw
  simp only [Bundle.npeArmAtoms, Bundle.messageArmAtoms, Bundle.ownAtoms0, Bundle.throwableAtoms, Bundle.throwableSAtoms, Bundle.chainSAtoms, Bundle.chain0Atoms, Bundle.stringAtoms, Bundle.npeAtoms, Bundle.passAtoms, Bundle.passSAtoms, List.mem_append, List.mem_cons, List.not_mem_nil, or_false] at h1
  repeat' (refine Or.elim h1 (fun h1 => ?_) (fun h1 => ?_))
  all_goals subst h1
  all_goals first
    | exact Or.inl q99
    | exact Or.inl q597
    | exact Or.inl q598
    | exact Or.inl q599
    | exact Or.inl q600
    | exact Or.inl q601
    | exact Or.inl q602
    | exact Or.inl q603
    | exact Or.inl q604
    | exact Or.inl q606
    | exact Or.inl q610
    | exact Or.inl q611
    | exact Or.inl q612
    | exact Or.inl q614
    | exact Or.inl q617
    | exact Or.inl q1408
    | exact Or.inl q1409
    | exact Or.inl q1410
    | exact Or.inl q1411
    | exact Or.inl q1412
    | exact Or.inr (Or.inl ⟨_, _, rfl, q2621⟩)
    | exact Or.inl q2649
    | exact Or.inl q2650
    | exact Or.inl q609
    | exact Or.inl q125
    | exact Or.inl q1421
    | exact Or.inl q1422
    | exact Or.inl q1423
    | exact Or.inr (Or.inr ⟨_, rfl, q1432⟩)
    | exact Or.inr (Or.inr ⟨_, rfl, q1433⟩)
    | exact Or.inl q1438
    | exact Or.inl q1439
    | exact Or.inl q1440
    | exact Or.inl q126
    | exact Or.inl q1323
    | exact Or.inl q1417
    | exact Or.inl q1418
    | exact Or.inl q1419
    | exact Or.inl q1420
    | exact Or.inl q1424
    | exact Or.inl q1425
    | exact Or.inl q1426
    | exact Or.inl q1427
    | exact Or.inl q1428
    | exact Or.inl q1429
    | exact Or.inl q1430
    | exact Or.inr (Or.inl ⟨_, _, rfl, q1431⟩)
    | exact Or.inl q1434
    | exact Or.inl q1435
    | exact Or.inl q1436
    | exact Or.inl q1437
    | exact Or.inr (Or.inl ⟨_, _, rfl, q2587⟩)
    | exact Or.inr (Or.inl ⟨_, _, rfl, q2613⟩)
    | exact Or.inl q1324
    | exact Or.inl q1445
    | exact Or.inl q1446
    | exact Or.inl q1447
    | exact Or.inl q1448
    | exact Or.inl q1449
    | exact Or.inl q1450
    | exact Or.inl q1451
    | exact Or.inl q1452
    | exact Or.inl q1454
    | exact Or.inl q1686
    | exact Or.inr (Or.inl ⟨_, _, rfl, q2614⟩)
    | exact Or.inl q1327
    | exact Or.inl q1459
    | exact Or.inl q1460
    | exact Or.inl q1461
    | exact Or.inl q1462
    | exact Or.inl q1463
    | exact Or.inl q1464
    | exact Or.inl q1465
    | exact Or.inl q1466
    | exact Or.inl q1468
    | exact Or.inr (Or.inl ⟨_, _, rfl, q2615⟩)
    | exact Or.inl q1325
    | exact Or.inl q1473
    | exact Or.inl q1474
    | exact Or.inl q1475
    | exact Or.inl q1476
    | exact Or.inl q1477
    | exact Or.inl q1478
    | exact Or.inl q1479
    | exact Or.inl q1480
    | exact Or.inl q1482
    | exact Or.inr (Or.inl ⟨_, _, rfl, q2616⟩)
    | exact Or.inr (Or.inl ⟨_, _, rfl, q2628⟩)
    | exact Or.inr (Or.inl ⟨_, _, rfl, q2629⟩)
    | exact Or.inl q145
    | exact Or.inl q146
    | exact Or.inr (Or.inl ⟨_, _, rfl, q2622⟩)
    | exact Or.inr (Or.inl ⟨_, _, rfl, q2623⟩)
    | exact Or.inr (Or.inl ⟨_, _, rfl, q2624⟩)
    | exact Or.inr (Or.inl ⟨_, _, rfl, q2625⟩)
    | exact Or.inr (Or.inl ⟨_, _, rfl, q2626⟩)
    | exact Or.inr (Or.inl ⟨_, _, rfl, q2627⟩)
    | exact Or.inl q626
    | exact Or.inl q120
    | exact Or.inl q1312
    | exact Or.inl q1313
    | exact Or.inl q1314
    | exact Or.inl q1315
    | exact Or.inl q1317
    | exact Or.inl q1319
    | exact Or.inl q1320
    | exact Or.inl q1321
    | exact Or.inr (Or.inr ⟨_, rfl, q1337⟩)
    | exact Or.inl q1341
    | exact Or.inl q1342
    | exact Or.inl q1344
    | exact Or.inl q1345
    | exact Or.inl q1346
    | exact Or.inl q1383
    | exact Or.inl q1350
    | exact Or.inl q1351
    | exact Or.inl q1352
    | exact Or.inl q1353
    | exact Or.inl q1359
    | exact Or.inl q1361
    | exact Or.inl q1363
    | exact Or.inl q1365
    | exact Or.inl q1367
    | exact Or.inl q1369
    | exact Or.inr (Or.inr ⟨_, rfl, q1375⟩)
    | exact Or.inr (Or.inr ⟨_, rfl, q1376⟩)
    | exact Or.inl q1378
    | exact Or.inl q1379
    | exact Or.inl q1380
    | exact Or.inl q1381
    | exact Or.inl q1382
    | exact Or.inl q1384
    | exact Or.inl q1397
    | exact Or.inl q1398
    | exact Or.inl q1510
    | exact Or.inl q1511
    | exact Or.inl q2584
    | exact Or.inr (Or.inl ⟨_, _, rfl, q2620⟩)
    | exact Or.inl q121
    | exact Or.inl q1309
    | exact Or.inl q1310
    | exact Or.inl q1311
    | exact Or.inl q1340
    | exact Or.inr (Or.inr ⟨_, rfl, q1373⟩)
    | exact Or.inr (Or.inr ⟨_, rfl, q1374⟩)
    | exact Or.inl q1394
    | exact Or.inl q1395
    | exact Or.inl q1396
    | exact Or.inl q1507
    | exact Or.inl q1508
    | exact Or.inl q1509
    | exact Or.inl q122
    | exact Or.inl q1306
    | exact Or.inl q1307
    | exact Or.inl q1308
    | exact Or.inl q1336
    | exact Or.inl q1339
    | exact Or.inr (Or.inr ⟨_, rfl, q1371⟩)
    | exact Or.inr (Or.inr ⟨_, rfl, q1372⟩)
    | exact Or.inr (Or.inl ⟨_, _, rfl, q1385⟩)
    | exact Or.inl q1391
    | exact Or.inl q1392
    | exact Or.inl q1393
    | exact Or.inl q1305
    | exact Or.inl q1328
    | exact Or.inl q1335
    | exact Or.inl q1338
    | exact Or.inl q1358
    | exact Or.inl q1360
    | exact Or.inl q1362
    | exact Or.inl q1364
    | exact Or.inl q1366
    | exact Or.inl q1368
    | exact Or.inl q1377
    | exact Or.inr (Or.inl ⟨_, _, rfl, q2611⟩)
    | exact Or.inl q1326
    | exact Or.inl q1390
    | exact Or.inl q1399
    | exact Or.inl q1400
    | exact Or.inl q1401
    | exact Or.inl q1402
    | exact Or.inl q1403
    | exact Or.inl q1404
    | exact Or.inl q1405
    | exact Or.inl q1407
    | exact Or.inl q1415
    | exact Or.inr (Or.inl ⟨_, _, rfl, q2612⟩)
    | exact Or.inl q144
    | exact Or.inl q369
    | exact Or.inl q596
    | exact Or.inl q1416
    | exact Or.inr (Or.inl ⟨_, _, rfl, q2590⟩)
    | exact Or.inl q160
    | exact Or.inl q164
    | exact Or.inr (Or.inl ⟨_, _, rfl, q2591⟩)
    | exact Or.inl q770
    | exact Or.inr (Or.inl ⟨_, _, rfl, q2599⟩)
    | exact Or.inr (Or.inl ⟨_, _, rfl, q2600⟩)
    | exact Or.inr (Or.inl ⟨_, _, rfl, q2601⟩)
    | exact Or.inr (Or.inl ⟨_, _, rfl, q2602⟩)
    | exact Or.inr (Or.inl ⟨_, _, rfl, q2603⟩)
    | exact Or.inr (Or.inl ⟨_, _, rfl, q2604⟩)
    | exact Or.inr (Or.inl ⟨_, _, rfl, q2605⟩)
    | exact Or.inr (Or.inl ⟨_, _, rfl, q2606⟩)
    | exact Or.inl q916
    | exact Or.inl q173
    | exact Or.inl q474
    | exact Or.inr (Or.inl ⟨_, _, rfl, q2607⟩)
    | exact Or.inr (Or.inl ⟨_, _, rfl, q2608⟩)
    | exact Or.inr (Or.inl ⟨_, _, rfl, q2609⟩)
    | exact Or.inl q1265
    | exact Or.inl q1266
    | exact Or.inr (Or.inl ⟨_, _, rfl, q2610⟩)
    | exact Or.inl q1322
    | exact Or.inl q1497
    | exact Or.inl q1498
    | exact Or.inl q1499
    | exact Or.inl q1500
    | exact Or.inl q1501
    | exact Or.inl q1502
    | exact Or.inl q1506
    | exact Or.inl q1516
    | exact Or.inl q1517
    | exact Or.inr (Or.inl ⟨_, _, rfl, q2617⟩)
    | exact Or.inl q1737
    | exact Or.inl q1763
    | exact Or.inr (Or.inl ⟨_, _, rfl, q2618⟩)
    | exact Or.inr (Or.inl ⟨_, _, rfl, q2619⟩)
    | exact Or.inr (Or.inl ⟨_, _, rfl, q2592⟩)
    | exact Or.inr (Or.inl ⟨_, _, rfl, q2596⟩)
    | exact Or.inr (Or.inl ⟨_, _, rfl, q2593⟩)
    | exact Or.inl q245
    | exact Or.inl q261
    | exact Or.inr (Or.inl ⟨_, _, rfl, q2594⟩)
    | exact Or.inl q1974
    | exact Or.inl q2151
    | exact Or.inr (Or.inl ⟨_, _, rfl, q2595⟩)
    | exact Or.inr (Or.inl ⟨_, _, rfl, q2597⟩)
    | exact Or.inl q651
    | exact Or.inl q710
    | exact Or.inr (Or.inl ⟨_, _, rfl, q2598⟩)
    | exact Or.inr (Or.inl ⟨_, _, rfl, q2639⟩)
    | exact Or.inr (Or.inl ⟨_, _, rfl, q2642⟩)
    | exact Or.inr (Or.inl ⟨_, _, rfl, q2647⟩)
    | exact Or.inr (Or.inl ⟨_, _, rfl, q2646⟩)
    | exact Or.inr (Or.inl ⟨_, _, rfl, q2644⟩)
    | exact Or.inr (Or.inl ⟨_, _, rfl, q2645⟩)
    | exact Or.inr (Or.inl ⟨_, _, rfl, q2637⟩)
    | exact Or.inr (Or.inl ⟨_, _, rfl, q2641⟩)
    | exact Or.inr (Or.inl ⟨_, _, rfl, q2635⟩)
    | exact Or.inr (Or.inl ⟨_, _, rfl, q2640⟩)
    | exact Or.inr (Or.inl ⟨_, _, rfl, q2636⟩)
    | exact Or.inr (Or.inl ⟨_, _, rfl, q2634⟩)
    | exact Or.inr (Or.inl ⟨_, _, rfl, q2648⟩)
    | exact Or.inr (Or.inl ⟨_, _, rfl, q2643⟩)
    | exact Or.inr (Or.inl ⟨_, _, rfl, q2638⟩)
    | exact Or.inl q1637
    | exact Or.inl q216
    | exact Or.inl q636
    | exact Or.inl q739
    | exact Or.inl q740
    | exact Or.inl q741
    | exact Or.inl q742
    | exact Or.inl q743
    | exact Or.inl q744
    | exact Or.inl qs17
    | exact absurd h2 (by decide)
theorem xat_S : ∀ w ∈ vx_atM "java/lang/ArrayStoreException" ["java/lang/RuntimeException", "java/lang/Exception"], xAt w := by
  intro w hw
  obtain ⟨h1, h2⟩ := List.mem_filter.mp hw
  simp only [Bundle.npeArmAtoms, Bundle.messageArmAtoms, Bundle.ownAtoms0, Bundle.throwableAtoms, Bundle.throwableSAtoms, Bundle.chainSAtoms, Bundle.chain0Atoms, Bundle.stringAtoms, Bundle.npeAtoms, Bundle.passAtoms, Bundle.passSAtoms, List.mem_append, List.mem_cons, List.not_mem_nil, or_false] at h1
  repeat' (refine Or.elim h1 (fun h1 => ?_) (fun h1 => ?_))
  all_goals subst h1
  all_goals first
    | exact Or.inl q99
    | exact Or.inl q597
    | exact Or.inl q598
    | exact Or.inl q599
    | exact Or.inl q600
    | exact Or.inl q601
    | exact Or.inl q602
    | exact Or.inl q603
    | exact Or.inl q604
    | exact Or.inl q606
    | exact Or.inl q610
    | exact Or.inl q611
    | exact Or.inl q612
    | exact Or.inl q614
    | exact Or.inl q617
    | exact Or.inl q1408
    | exact Or.inl q1409
    | exact Or.inl q1410
    | exact Or.inl q1411
    | exact Or.inl q1412
    | exact Or.inr (Or.inl ⟨_, _, rfl, q2621⟩)
    | exact Or.inl q2649
    | exact Or.inl q2650
    | exact Or.inl q609
    | exact Or.inl q1423
    | exact Or.inl q1440
    | exact Or.inl q1323
    | exact Or.inl q1424
    | exact Or.inl q1425
    | exact Or.inl q1426
    | exact Or.inl q1427
    | exact Or.inl q1428
    | exact Or.inl q1429
    | exact Or.inl q1434
    | exact Or.inr (Or.inl ⟨_, _, rfl, q2613⟩)
    | exact Or.inl q127
    | exact Or.inl q1324
    | exact Or.inl q1442
    | exact Or.inl q1443
    | exact Or.inl q1444
    | exact Or.inl q1445
    | exact Or.inl q1446
    | exact Or.inl q1447
    | exact Or.inl q1448
    | exact Or.inl q1449
    | exact Or.inl q1450
    | exact Or.inl q1451
    | exact Or.inl q1452
    | exact Or.inr (Or.inl ⟨_, _, rfl, q1453⟩)
    | exact Or.inl q1454
    | exact Or.inl q1684
    | exact Or.inl q1685
    | exact Or.inl q1686
    | exact Or.inr (Or.inl ⟨_, _, rfl, q2614⟩)
    | exact Or.inl q1327
    | exact Or.inl q1459
    | exact Or.inl q1460
    | exact Or.inl q1461
    | exact Or.inl q1462
    | exact Or.inl q1463
    | exact Or.inl q1464
    | exact Or.inl q1465
    | exact Or.inl q1466
    | exact Or.inl q1468
    | exact Or.inr (Or.inl ⟨_, _, rfl, q2615⟩)
    | exact Or.inl q1325
    | exact Or.inl q1473
    | exact Or.inl q1474
    | exact Or.inl q1475
    | exact Or.inl q1476
    | exact Or.inl q1477
    | exact Or.inl q1478
    | exact Or.inl q1479
    | exact Or.inl q1480
    | exact Or.inl q1482
    | exact Or.inr (Or.inl ⟨_, _, rfl, q2616⟩)
    | exact Or.inr (Or.inl ⟨_, _, rfl, q2628⟩)
    | exact Or.inr (Or.inl ⟨_, _, rfl, q2629⟩)
    | exact Or.inl q145
    | exact Or.inl q146
    | exact Or.inr (Or.inl ⟨_, _, rfl, q2622⟩)
    | exact Or.inr (Or.inl ⟨_, _, rfl, q2623⟩)
    | exact Or.inr (Or.inl ⟨_, _, rfl, q2624⟩)
    | exact Or.inr (Or.inl ⟨_, _, rfl, q2625⟩)
    | exact Or.inr (Or.inl ⟨_, _, rfl, q2626⟩)
    | exact Or.inr (Or.inl ⟨_, _, rfl, q2627⟩)
    | exact Or.inl q626
    | exact Or.inl q120
    | exact Or.inl q1312
    | exact Or.inl q1313
    | exact Or.inl q1314
    | exact Or.inl q1315
    | exact Or.inl q1317
    | exact Or.inl q1319
    | exact Or.inl q1320
    | exact Or.inl q1321
    | exact Or.inr (Or.inr ⟨_, rfl, q1337⟩)
    | exact Or.inl q1341
    | exact Or.inl q1342
    | exact Or.inl q1344
    | exact Or.inl q1345
    | exact Or.inl q1346
    | exact Or.inl q1383
    | exact Or.inl q1350
    | exact Or.inl q1351
    | exact Or.inl q1352
    | exact Or.inl q1353
    | exact Or.inl q1359
    | exact Or.inl q1361
    | exact Or.inl q1363
    | exact Or.inl q1365
    | exact Or.inl q1367
    | exact Or.inl q1369
    | exact Or.inr (Or.inr ⟨_, rfl, q1375⟩)
    | exact Or.inr (Or.inr ⟨_, rfl, q1376⟩)
    | exact Or.inl q1378
    | exact Or.inl q1379
    | exact Or.inl q1380
    | exact Or.inl q1381
    | exact Or.inl q1382
    | exact Or.inl q1384
    | exact Or.inl q1397
    | exact Or.inl q1398
    | exact Or.inl q1510
    | exact Or.inl q1511
    | exact Or.inl q2584
    | exact Or.inr (Or.inl ⟨_, _, rfl, q2620⟩)
    | exact Or.inl q121
    | exact Or.inl q1309
    | exact Or.inl q1310
    | exact Or.inl q1311
    | exact Or.inl q1340
    | exact Or.inr (Or.inr ⟨_, rfl, q1373⟩)
    | exact Or.inr (Or.inr ⟨_, rfl, q1374⟩)
    | exact Or.inl q1394
    | exact Or.inl q1395
    | exact Or.inl q1396
    | exact Or.inl q1507
    | exact Or.inl q1508
    | exact Or.inl q1509
    | exact Or.inl q122
    | exact Or.inl q1306
    | exact Or.inl q1307
    | exact Or.inl q1308
    | exact Or.inl q1336
    | exact Or.inl q1339
    | exact Or.inr (Or.inr ⟨_, rfl, q1371⟩)
    | exact Or.inr (Or.inr ⟨_, rfl, q1372⟩)
    | exact Or.inr (Or.inl ⟨_, _, rfl, q1385⟩)
    | exact Or.inl q1391
    | exact Or.inl q1392
    | exact Or.inl q1393
    | exact Or.inl q1305
    | exact Or.inl q1328
    | exact Or.inl q1335
    | exact Or.inl q1338
    | exact Or.inl q1358
    | exact Or.inl q1360
    | exact Or.inl q1362
    | exact Or.inl q1364
    | exact Or.inl q1366
    | exact Or.inl q1368
    | exact Or.inl q1377
    | exact Or.inr (Or.inl ⟨_, _, rfl, q2611⟩)
    | exact Or.inl q1326
    | exact Or.inl q1390
    | exact Or.inl q1399
    | exact Or.inl q1400
    | exact Or.inl q1401
    | exact Or.inl q1402
    | exact Or.inl q1403
    | exact Or.inl q1404
    | exact Or.inl q1405
    | exact Or.inl q1407
    | exact Or.inl q1415
    | exact Or.inr (Or.inl ⟨_, _, rfl, q2612⟩)
    | exact Or.inl q144
    | exact Or.inl q369
    | exact Or.inl q596
    | exact Or.inl q1441
    | exact Or.inl q1683
    | exact Or.inr (Or.inl ⟨_, _, rfl, q2590⟩)
    | exact Or.inl q160
    | exact Or.inl q164
    | exact Or.inr (Or.inl ⟨_, _, rfl, q2591⟩)
    | exact Or.inl q770
    | exact Or.inr (Or.inl ⟨_, _, rfl, q2599⟩)
    | exact Or.inr (Or.inl ⟨_, _, rfl, q2600⟩)
    | exact Or.inr (Or.inl ⟨_, _, rfl, q2601⟩)
    | exact Or.inr (Or.inl ⟨_, _, rfl, q2602⟩)
    | exact Or.inr (Or.inl ⟨_, _, rfl, q2603⟩)
    | exact Or.inr (Or.inl ⟨_, _, rfl, q2604⟩)
    | exact Or.inr (Or.inl ⟨_, _, rfl, q2605⟩)
    | exact Or.inr (Or.inl ⟨_, _, rfl, q2606⟩)
    | exact Or.inl q916
    | exact Or.inl q173
    | exact Or.inl q474
    | exact Or.inr (Or.inl ⟨_, _, rfl, q2607⟩)
    | exact Or.inr (Or.inl ⟨_, _, rfl, q2608⟩)
    | exact Or.inr (Or.inl ⟨_, _, rfl, q2609⟩)
    | exact Or.inl q1265
    | exact Or.inl q1266
    | exact Or.inr (Or.inl ⟨_, _, rfl, q2610⟩)
    | exact Or.inl q1322
    | exact Or.inl q1497
    | exact Or.inl q1498
    | exact Or.inl q1499
    | exact Or.inl q1500
    | exact Or.inl q1501
    | exact Or.inl q1502
    | exact Or.inl q1506
    | exact Or.inl q1516
    | exact Or.inl q1517
    | exact Or.inr (Or.inl ⟨_, _, rfl, q2617⟩)
    | exact Or.inl q1737
    | exact Or.inl q1763
    | exact Or.inr (Or.inl ⟨_, _, rfl, q2618⟩)
    | exact Or.inr (Or.inl ⟨_, _, rfl, q2619⟩)
    | exact Or.inr (Or.inl ⟨_, _, rfl, q2592⟩)
    | exact Or.inr (Or.inl ⟨_, _, rfl, q2596⟩)
    | exact Or.inr (Or.inl ⟨_, _, rfl, q2593⟩)
    | exact Or.inl q245
    | exact Or.inl q261
    | exact Or.inr (Or.inl ⟨_, _, rfl, q2594⟩)
    | exact Or.inl q1974
    | exact Or.inl q2151
    | exact Or.inr (Or.inl ⟨_, _, rfl, q2595⟩)
    | exact Or.inr (Or.inl ⟨_, _, rfl, q2597⟩)
    | exact Or.inl q651
    | exact Or.inl q710
    | exact Or.inr (Or.inl ⟨_, _, rfl, q2598⟩)
    | exact Or.inr (Or.inl ⟨_, _, rfl, q2639⟩)
    | exact Or.inr (Or.inl ⟨_, _, rfl, q2642⟩)
    | exact Or.inr (Or.inl ⟨_, _, rfl, q2647⟩)
    | exact Or.inr (Or.inl ⟨_, _, rfl, q2646⟩)
    | exact Or.inr (Or.inl ⟨_, _, rfl, q2644⟩)
    | exact Or.inr (Or.inl ⟨_, _, rfl, q2645⟩)
    | exact Or.inr (Or.inl ⟨_, _, rfl, q2637⟩)
    | exact Or.inr (Or.inl ⟨_, _, rfl, q2641⟩)
    | exact Or.inr (Or.inl ⟨_, _, rfl, q2635⟩)
    | exact Or.inr (Or.inl ⟨_, _, rfl, q2640⟩)
    | exact Or.inr (Or.inl ⟨_, _, rfl, q2636⟩)
    | exact Or.inr (Or.inl ⟨_, _, rfl, q2634⟩)
    | exact Or.inr (Or.inl ⟨_, _, rfl, q2648⟩)
    | exact Or.inr (Or.inl ⟨_, _, rfl, q2643⟩)
    | exact Or.inr (Or.inl ⟨_, _, rfl, q2638⟩)
    | exact Or.inl q1637
    | exact Or.inl q216
    | exact Or.inl q636
    | exact Or.inl q739
    | exact Or.inl q740
    | exact Or.inl q741
    | exact Or.inl q742
    | exact Or.inl q743
    | exact Or.inl q744
    | exact Or.inl qs17
    | exact absurd h2 (by decide)
theorem xat_G : ∀ w ∈ vx_atM "java/lang/NegativeArraySizeException" ["java/lang/RuntimeException", "java/lang/Exception"], xAt w := by
  intro w hw
  obtain ⟨h1, h2⟩ := List.mem_filter.mp hw
  simp only [Bundle.npeArmAtoms, Bundle.messageArmAtoms, Bundle.ownAtoms0, Bundle.throwableAtoms, Bundle.throwableSAtoms, Bundle.chainSAtoms, Bundle.chain0Atoms, Bundle.stringAtoms, Bundle.npeAtoms, Bundle.passAtoms, Bundle.passSAtoms, List.mem_append, List.mem_cons, List.not_mem_nil, or_false] at h1
  repeat' (refine Or.elim h1 (fun h1 => ?_) (fun h1 => ?_))
  all_goals subst h1
  all_goals first
    | exact Or.inl q99
    | exact Or.inl q597
    | exact Or.inl q598
    | exact Or.inl q599
    | exact Or.inl q600
    | exact Or.inl q601
    | exact Or.inl q602
    | exact Or.inl q603
    | exact Or.inl q604
    | exact Or.inl q606
    | exact Or.inl q610
    | exact Or.inl q611
    | exact Or.inl q612
    | exact Or.inl q614
    | exact Or.inl q617
    | exact Or.inl q1408
    | exact Or.inl q1409
    | exact Or.inl q1410
    | exact Or.inl q1411
    | exact Or.inl q1412
    | exact Or.inr (Or.inl ⟨_, _, rfl, q2621⟩)
    | exact Or.inl q2649
    | exact Or.inl q2650
    | exact Or.inl q609
    | exact Or.inl q1423
    | exact Or.inl q1440
    | exact Or.inl q1323
    | exact Or.inl q1424
    | exact Or.inl q1425
    | exact Or.inl q1426
    | exact Or.inl q1427
    | exact Or.inl q1428
    | exact Or.inl q1429
    | exact Or.inl q1434
    | exact Or.inr (Or.inl ⟨_, _, rfl, q2613⟩)
    | exact Or.inl q1324
    | exact Or.inl q1445
    | exact Or.inl q1446
    | exact Or.inl q1447
    | exact Or.inl q1448
    | exact Or.inl q1449
    | exact Or.inl q1450
    | exact Or.inl q1451
    | exact Or.inl q1452
    | exact Or.inl q1454
    | exact Or.inl q1686
    | exact Or.inr (Or.inl ⟨_, _, rfl, q2614⟩)
    | exact Or.inl q128
    | exact Or.inl q1327
    | exact Or.inl q1456
    | exact Or.inl q1457
    | exact Or.inl q1458
    | exact Or.inl q1459
    | exact Or.inl q1460
    | exact Or.inl q1461
    | exact Or.inl q1462
    | exact Or.inl q1463
    | exact Or.inl q1464
    | exact Or.inl q1465
    | exact Or.inl q1466
    | exact Or.inr (Or.inl ⟨_, _, rfl, q1467⟩)
    | exact Or.inl q1468
    | exact Or.inr (Or.inl ⟨_, _, rfl, q2615⟩)
    | exact Or.inl q1325
    | exact Or.inl q1473
    | exact Or.inl q1474
    | exact Or.inl q1475
    | exact Or.inl q1476
    | exact Or.inl q1477
    | exact Or.inl q1478
    | exact Or.inl q1479
    | exact Or.inl q1480
    | exact Or.inl q1482
    | exact Or.inr (Or.inl ⟨_, _, rfl, q2616⟩)
    | exact Or.inr (Or.inl ⟨_, _, rfl, q2628⟩)
    | exact Or.inr (Or.inl ⟨_, _, rfl, q2629⟩)
    | exact Or.inl q145
    | exact Or.inl q146
    | exact Or.inr (Or.inl ⟨_, _, rfl, q2622⟩)
    | exact Or.inr (Or.inl ⟨_, _, rfl, q2623⟩)
    | exact Or.inr (Or.inl ⟨_, _, rfl, q2624⟩)
    | exact Or.inr (Or.inl ⟨_, _, rfl, q2625⟩)
    | exact Or.inr (Or.inl ⟨_, _, rfl, q2626⟩)
    | exact Or.inr (Or.inl ⟨_, _, rfl, q2627⟩)
    | exact Or.inl q626
    | exact Or.inl q120
    | exact Or.inl q1312
    | exact Or.inl q1313
    | exact Or.inl q1314
    | exact Or.inl q1315
    | exact Or.inl q1317
    | exact Or.inl q1319
    | exact Or.inl q1320
    | exact Or.inl q1321
    | exact Or.inr (Or.inr ⟨_, rfl, q1337⟩)
    | exact Or.inl q1341
    | exact Or.inl q1342
    | exact Or.inl q1344
    | exact Or.inl q1345
    | exact Or.inl q1346
    | exact Or.inl q1383
    | exact Or.inl q1350
    | exact Or.inl q1351
    | exact Or.inl q1352
    | exact Or.inl q1353
    | exact Or.inl q1359
    | exact Or.inl q1361
    | exact Or.inl q1363
    | exact Or.inl q1365
    | exact Or.inl q1367
    | exact Or.inl q1369
    | exact Or.inr (Or.inr ⟨_, rfl, q1375⟩)
    | exact Or.inr (Or.inr ⟨_, rfl, q1376⟩)
    | exact Or.inl q1378
    | exact Or.inl q1379
    | exact Or.inl q1380
    | exact Or.inl q1381
    | exact Or.inl q1382
    | exact Or.inl q1384
    | exact Or.inl q1397
    | exact Or.inl q1398
    | exact Or.inl q1510
    | exact Or.inl q1511
    | exact Or.inl q2584
    | exact Or.inr (Or.inl ⟨_, _, rfl, q2620⟩)
    | exact Or.inl q121
    | exact Or.inl q1309
    | exact Or.inl q1310
    | exact Or.inl q1311
    | exact Or.inl q1340
    | exact Or.inr (Or.inr ⟨_, rfl, q1373⟩)
    | exact Or.inr (Or.inr ⟨_, rfl, q1374⟩)
    | exact Or.inl q1394
    | exact Or.inl q1395
    | exact Or.inl q1396
    | exact Or.inl q1507
    | exact Or.inl q1508
    | exact Or.inl q1509
    | exact Or.inl q122
    | exact Or.inl q1306
    | exact Or.inl q1307
    | exact Or.inl q1308
    | exact Or.inl q1336
    | exact Or.inl q1339
    | exact Or.inr (Or.inr ⟨_, rfl, q1371⟩)
    | exact Or.inr (Or.inr ⟨_, rfl, q1372⟩)
    | exact Or.inr (Or.inl ⟨_, _, rfl, q1385⟩)
    | exact Or.inl q1391
    | exact Or.inl q1392
    | exact Or.inl q1393
    | exact Or.inl q1305
    | exact Or.inl q1328
    | exact Or.inl q1335
    | exact Or.inl q1338
    | exact Or.inl q1358
    | exact Or.inl q1360
    | exact Or.inl q1362
    | exact Or.inl q1364
    | exact Or.inl q1366
    | exact Or.inl q1368
    | exact Or.inl q1377
    | exact Or.inr (Or.inl ⟨_, _, rfl, q2611⟩)
    | exact Or.inl q1326
    | exact Or.inl q1390
    | exact Or.inl q1399
    | exact Or.inl q1400
    | exact Or.inl q1401
    | exact Or.inl q1402
    | exact Or.inl q1403
    | exact Or.inl q1404
    | exact Or.inl q1405
    | exact Or.inl q1407
    | exact Or.inl q1415
    | exact Or.inr (Or.inl ⟨_, _, rfl, q2612⟩)
    | exact Or.inl q144
    | exact Or.inl q369
    | exact Or.inl q596
    | exact Or.inl q1455
    | exact Or.inr (Or.inl ⟨_, _, rfl, q2590⟩)
    | exact Or.inl q160
    | exact Or.inl q164
    | exact Or.inr (Or.inl ⟨_, _, rfl, q2591⟩)
    | exact Or.inl q770
    | exact Or.inr (Or.inl ⟨_, _, rfl, q2599⟩)
    | exact Or.inr (Or.inl ⟨_, _, rfl, q2600⟩)
    | exact Or.inr (Or.inl ⟨_, _, rfl, q2601⟩)
    | exact Or.inr (Or.inl ⟨_, _, rfl, q2602⟩)
    | exact Or.inr (Or.inl ⟨_, _, rfl, q2603⟩)
    | exact Or.inr (Or.inl ⟨_, _, rfl, q2604⟩)
    | exact Or.inr (Or.inl ⟨_, _, rfl, q2605⟩)
    | exact Or.inr (Or.inl ⟨_, _, rfl, q2606⟩)
    | exact Or.inl q916
    | exact Or.inl q173
    | exact Or.inl q474
    | exact Or.inr (Or.inl ⟨_, _, rfl, q2607⟩)
    | exact Or.inr (Or.inl ⟨_, _, rfl, q2608⟩)
    | exact Or.inr (Or.inl ⟨_, _, rfl, q2609⟩)
    | exact Or.inl q1265
    | exact Or.inl q1266
    | exact Or.inr (Or.inl ⟨_, _, rfl, q2610⟩)
    | exact Or.inl q1322
    | exact Or.inl q1497
    | exact Or.inl q1498
    | exact Or.inl q1499
    | exact Or.inl q1500
    | exact Or.inl q1501
    | exact Or.inl q1502
    | exact Or.inl q1506
    | exact Or.inl q1516
    | exact Or.inl q1517
    | exact Or.inr (Or.inl ⟨_, _, rfl, q2617⟩)
    | exact Or.inl q1737
    | exact Or.inl q1763
    | exact Or.inr (Or.inl ⟨_, _, rfl, q2618⟩)
    | exact Or.inr (Or.inl ⟨_, _, rfl, q2619⟩)
    | exact Or.inr (Or.inl ⟨_, _, rfl, q2592⟩)
    | exact Or.inr (Or.inl ⟨_, _, rfl, q2596⟩)
    | exact Or.inr (Or.inl ⟨_, _, rfl, q2593⟩)
    | exact Or.inl q245
    | exact Or.inl q261
    | exact Or.inr (Or.inl ⟨_, _, rfl, q2594⟩)
    | exact Or.inl q1974
    | exact Or.inl q2151
    | exact Or.inr (Or.inl ⟨_, _, rfl, q2595⟩)
    | exact Or.inr (Or.inl ⟨_, _, rfl, q2597⟩)
    | exact Or.inl q651
    | exact Or.inl q710
    | exact Or.inr (Or.inl ⟨_, _, rfl, q2598⟩)
    | exact Or.inr (Or.inl ⟨_, _, rfl, q2639⟩)
    | exact Or.inr (Or.inl ⟨_, _, rfl, q2642⟩)
    | exact Or.inr (Or.inl ⟨_, _, rfl, q2647⟩)
    | exact Or.inr (Or.inl ⟨_, _, rfl, q2646⟩)
    | exact Or.inr (Or.inl ⟨_, _, rfl, q2644⟩)
    | exact Or.inr (Or.inl ⟨_, _, rfl, q2645⟩)
    | exact Or.inr (Or.inl ⟨_, _, rfl, q2637⟩)
    | exact Or.inr (Or.inl ⟨_, _, rfl, q2641⟩)
    | exact Or.inr (Or.inl ⟨_, _, rfl, q2635⟩)
    | exact Or.inr (Or.inl ⟨_, _, rfl, q2640⟩)
    | exact Or.inr (Or.inl ⟨_, _, rfl, q2636⟩)
    | exact Or.inr (Or.inl ⟨_, _, rfl, q2634⟩)
    | exact Or.inr (Or.inl ⟨_, _, rfl, q2648⟩)
    | exact Or.inr (Or.inl ⟨_, _, rfl, q2643⟩)
    | exact Or.inr (Or.inl ⟨_, _, rfl, q2638⟩)
    | exact Or.inl q1637
    | exact Or.inl q216
    | exact Or.inl q636
    | exact Or.inl q739
    | exact Or.inl q740
    | exact Or.inl q741
    | exact Or.inl q742
    | exact Or.inl q743
    | exact Or.inl q744
    | exact Or.inl qs17
    | exact absurd h2 (by decide)
theorem xat_C : ∀ w ∈ vx_atM "java/lang/ClassCastException" ["java/lang/RuntimeException", "java/lang/Exception"], xAt w := by
  intro w hw
  obtain ⟨h1, h2⟩ := List.mem_filter.mp hw
  simp only [Bundle.npeArmAtoms, Bundle.messageArmAtoms, Bundle.ownAtoms0, Bundle.throwableAtoms, Bundle.throwableSAtoms, Bundle.chainSAtoms, Bundle.chain0Atoms, Bundle.stringAtoms, Bundle.npeAtoms, Bundle.passAtoms, Bundle.passSAtoms, List.mem_append, List.mem_cons, List.not_mem_nil, or_false] at h1
  repeat' (refine Or.elim h1 (fun h1 => ?_) (fun h1 => ?_))
  all_goals subst h1
  all_goals first
    | exact Or.inl q99
    | exact Or.inl q597
    | exact Or.inl q598
    | exact Or.inl q599
    | exact Or.inl q600
    | exact Or.inl q601
    | exact Or.inl q602
    | exact Or.inl q603
    | exact Or.inl q604
    | exact Or.inl q606
    | exact Or.inl q610
    | exact Or.inl q611
    | exact Or.inl q612
    | exact Or.inl q614
    | exact Or.inl q617
    | exact Or.inl q1408
    | exact Or.inl q1409
    | exact Or.inl q1410
    | exact Or.inl q1411
    | exact Or.inl q1412
    | exact Or.inr (Or.inl ⟨_, _, rfl, q2621⟩)
    | exact Or.inl q2649
    | exact Or.inl q2650
    | exact Or.inl q609
    | exact Or.inl q1423
    | exact Or.inl q1440
    | exact Or.inl q1323
    | exact Or.inl q1424
    | exact Or.inl q1425
    | exact Or.inl q1426
    | exact Or.inl q1427
    | exact Or.inl q1428
    | exact Or.inl q1429
    | exact Or.inl q1434
    | exact Or.inr (Or.inl ⟨_, _, rfl, q2613⟩)
    | exact Or.inl q1324
    | exact Or.inl q1445
    | exact Or.inl q1446
    | exact Or.inl q1447
    | exact Or.inl q1448
    | exact Or.inl q1449
    | exact Or.inl q1450
    | exact Or.inl q1451
    | exact Or.inl q1452
    | exact Or.inl q1454
    | exact Or.inl q1686
    | exact Or.inr (Or.inl ⟨_, _, rfl, q2614⟩)
    | exact Or.inl q1327
    | exact Or.inl q1459
    | exact Or.inl q1460
    | exact Or.inl q1461
    | exact Or.inl q1462
    | exact Or.inl q1463
    | exact Or.inl q1464
    | exact Or.inl q1465
    | exact Or.inl q1466
    | exact Or.inl q1468
    | exact Or.inr (Or.inl ⟨_, _, rfl, q2615⟩)
    | exact Or.inl q129
    | exact Or.inl q1325
    | exact Or.inl q1470
    | exact Or.inl q1471
    | exact Or.inl q1472
    | exact Or.inl q1473
    | exact Or.inl q1474
    | exact Or.inl q1475
    | exact Or.inl q1476
    | exact Or.inl q1477
    | exact Or.inl q1478
    | exact Or.inl q1479
    | exact Or.inl q1480
    | exact Or.inr (Or.inl ⟨_, _, rfl, q1481⟩)
    | exact Or.inl q1482
    | exact Or.inr (Or.inl ⟨_, _, rfl, q2616⟩)
    | exact Or.inr (Or.inl ⟨_, _, rfl, q2628⟩)
    | exact Or.inr (Or.inl ⟨_, _, rfl, q2629⟩)
    | exact Or.inl q145
    | exact Or.inl q146
    | exact Or.inr (Or.inl ⟨_, _, rfl, q2622⟩)
    | exact Or.inr (Or.inl ⟨_, _, rfl, q2623⟩)
    | exact Or.inr (Or.inl ⟨_, _, rfl, q2624⟩)
    | exact Or.inr (Or.inl ⟨_, _, rfl, q2625⟩)
    | exact Or.inr (Or.inl ⟨_, _, rfl, q2626⟩)
    | exact Or.inr (Or.inl ⟨_, _, rfl, q2627⟩)
    | exact Or.inl q626
    | exact Or.inl q120
    | exact Or.inl q1312
    | exact Or.inl q1313
    | exact Or.inl q1314
    | exact Or.inl q1315
    | exact Or.inl q1317
    | exact Or.inl q1319
    | exact Or.inl q1320
    | exact Or.inl q1321
    | exact Or.inr (Or.inr ⟨_, rfl, q1337⟩)
    | exact Or.inl q1341
    | exact Or.inl q1342
    | exact Or.inl q1344
    | exact Or.inl q1345
    | exact Or.inl q1346
    | exact Or.inl q1383
    | exact Or.inl q1350
    | exact Or.inl q1351
    | exact Or.inl q1352
    | exact Or.inl q1353
    | exact Or.inl q1359
    | exact Or.inl q1361
    | exact Or.inl q1363
    | exact Or.inl q1365
    | exact Or.inl q1367
    | exact Or.inl q1369
    | exact Or.inr (Or.inr ⟨_, rfl, q1375⟩)
    | exact Or.inr (Or.inr ⟨_, rfl, q1376⟩)
    | exact Or.inl q1378
    | exact Or.inl q1379
    | exact Or.inl q1380
    | exact Or.inl q1381
    | exact Or.inl q1382
    | exact Or.inl q1384
    | exact Or.inl q1397
    | exact Or.inl q1398
    | exact Or.inl q1510
    | exact Or.inl q1511
    | exact Or.inl q2584
    | exact Or.inr (Or.inl ⟨_, _, rfl, q2620⟩)
    | exact Or.inl q121
    | exact Or.inl q1309
    | exact Or.inl q1310
    | exact Or.inl q1311
    | exact Or.inl q1340
    | exact Or.inr (Or.inr ⟨_, rfl, q1373⟩)
    | exact Or.inr (Or.inr ⟨_, rfl, q1374⟩)
    | exact Or.inl q1394
    | exact Or.inl q1395
    | exact Or.inl q1396
    | exact Or.inl q1507
    | exact Or.inl q1508
    | exact Or.inl q1509
    | exact Or.inl q122
    | exact Or.inl q1306
    | exact Or.inl q1307
    | exact Or.inl q1308
    | exact Or.inl q1336
    | exact Or.inl q1339
    | exact Or.inr (Or.inr ⟨_, rfl, q1371⟩)
    | exact Or.inr (Or.inr ⟨_, rfl, q1372⟩)
    | exact Or.inr (Or.inl ⟨_, _, rfl, q1385⟩)
    | exact Or.inl q1391
    | exact Or.inl q1392
    | exact Or.inl q1393
    | exact Or.inl q1305
    | exact Or.inl q1328
    | exact Or.inl q1335
    | exact Or.inl q1338
    | exact Or.inl q1358
    | exact Or.inl q1360
    | exact Or.inl q1362
    | exact Or.inl q1364
    | exact Or.inl q1366
    | exact Or.inl q1368
    | exact Or.inl q1377
    | exact Or.inr (Or.inl ⟨_, _, rfl, q2611⟩)
    | exact Or.inl q1326
    | exact Or.inl q1390
    | exact Or.inl q1399
    | exact Or.inl q1400
    | exact Or.inl q1401
    | exact Or.inl q1402
    | exact Or.inl q1403
    | exact Or.inl q1404
    | exact Or.inl q1405
    | exact Or.inl q1407
    | exact Or.inl q1415
    | exact Or.inr (Or.inl ⟨_, _, rfl, q2612⟩)
    | exact Or.inl q144
    | exact Or.inl q369
    | exact Or.inl q596
    | exact Or.inl q1469
    | exact Or.inr (Or.inl ⟨_, _, rfl, q2590⟩)
    | exact Or.inl q160
    | exact Or.inl q164
    | exact Or.inr (Or.inl ⟨_, _, rfl, q2591⟩)
    | exact Or.inl q770
    | exact Or.inr (Or.inl ⟨_, _, rfl, q2599⟩)
    | exact Or.inr (Or.inl ⟨_, _, rfl, q2600⟩)
    | exact Or.inr (Or.inl ⟨_, _, rfl, q2601⟩)
    | exact Or.inr (Or.inl ⟨_, _, rfl, q2602⟩)
    | exact Or.inr (Or.inl ⟨_, _, rfl, q2603⟩)
    | exact Or.inr (Or.inl ⟨_, _, rfl, q2604⟩)
    | exact Or.inr (Or.inl ⟨_, _, rfl, q2605⟩)
    | exact Or.inr (Or.inl ⟨_, _, rfl, q2606⟩)
    | exact Or.inl q916
    | exact Or.inl q173
    | exact Or.inl q474
    | exact Or.inr (Or.inl ⟨_, _, rfl, q2607⟩)
    | exact Or.inr (Or.inl ⟨_, _, rfl, q2608⟩)
    | exact Or.inr (Or.inl ⟨_, _, rfl, q2609⟩)
    | exact Or.inl q1265
    | exact Or.inl q1266
    | exact Or.inr (Or.inl ⟨_, _, rfl, q2610⟩)
    | exact Or.inl q1322
    | exact Or.inl q1497
    | exact Or.inl q1498
    | exact Or.inl q1499
    | exact Or.inl q1500
    | exact Or.inl q1501
    | exact Or.inl q1502
    | exact Or.inl q1506
    | exact Or.inl q1516
    | exact Or.inl q1517
    | exact Or.inr (Or.inl ⟨_, _, rfl, q2617⟩)
    | exact Or.inl q1737
    | exact Or.inl q1763
    | exact Or.inr (Or.inl ⟨_, _, rfl, q2618⟩)
    | exact Or.inr (Or.inl ⟨_, _, rfl, q2619⟩)
    | exact Or.inr (Or.inl ⟨_, _, rfl, q2592⟩)
    | exact Or.inr (Or.inl ⟨_, _, rfl, q2596⟩)
    | exact Or.inr (Or.inl ⟨_, _, rfl, q2593⟩)
    | exact Or.inl q245
    | exact Or.inl q261
    | exact Or.inr (Or.inl ⟨_, _, rfl, q2594⟩)
    | exact Or.inl q1974
    | exact Or.inl q2151
    | exact Or.inr (Or.inl ⟨_, _, rfl, q2595⟩)
    | exact Or.inr (Or.inl ⟨_, _, rfl, q2597⟩)
    | exact Or.inl q651
    | exact Or.inl q710
    | exact Or.inr (Or.inl ⟨_, _, rfl, q2598⟩)
    | exact Or.inr (Or.inl ⟨_, _, rfl, q2639⟩)
    | exact Or.inr (Or.inl ⟨_, _, rfl, q2642⟩)
    | exact Or.inr (Or.inl ⟨_, _, rfl, q2647⟩)
    | exact Or.inr (Or.inl ⟨_, _, rfl, q2646⟩)
    | exact Or.inr (Or.inl ⟨_, _, rfl, q2644⟩)
    | exact Or.inr (Or.inl ⟨_, _, rfl, q2645⟩)
    | exact Or.inr (Or.inl ⟨_, _, rfl, q2637⟩)
    | exact Or.inr (Or.inl ⟨_, _, rfl, q2641⟩)
    | exact Or.inr (Or.inl ⟨_, _, rfl, q2635⟩)
    | exact Or.inr (Or.inl ⟨_, _, rfl, q2640⟩)
    | exact Or.inr (Or.inl ⟨_, _, rfl, q2636⟩)
    | exact Or.inr (Or.inl ⟨_, _, rfl, q2634⟩)
    | exact Or.inr (Or.inl ⟨_, _, rfl, q2648⟩)
    | exact Or.inr (Or.inl ⟨_, _, rfl, q2643⟩)
    | exact Or.inr (Or.inl ⟨_, _, rfl, q2638⟩)
    | exact Or.inl q1637
    | exact Or.inl q216
    | exact Or.inl q636
    | exact Or.inl q739
    | exact Or.inl q740
    | exact Or.inl q741
    | exact Or.inl q742
    | exact Or.inl q743
    | exact Or.inl q744
    | exact Or.inl qs17
    | exact absurd h2 (by decide)
theorem xat_I0 : ∀ w ∈ vx_at0 "ReflectMirror" 136 "java/lang/IllegalArgumentException" ["java/lang/RuntimeException", "java/lang/Exception"], xAt w := by
  intro w hw
  obtain ⟨h1, h2⟩ := List.mem_filter.mp hw
  simp only [Bundle.npeArmAtoms, Bundle.messageArmAtoms, Bundle.ownAtoms0, Bundle.throwableAtoms, Bundle.throwableSAtoms, Bundle.chainSAtoms, Bundle.chain0Atoms, Bundle.stringAtoms, Bundle.npeAtoms, Bundle.passAtoms, Bundle.passSAtoms, List.mem_append, List.mem_cons, List.not_mem_nil, or_false] at h1
  repeat' (refine Or.elim h1 (fun h1 => ?_) (fun h1 => ?_))
  all_goals subst h1
  all_goals first
    | exact Or.inr (Or.inl ⟨_, _, rfl, q2621⟩)
    | exact Or.inl q1423
    | exact Or.inl q1440
    | exact Or.inl q1323
    | exact Or.inl q1424
    | exact Or.inl q1425
    | exact Or.inl q1426
    | exact Or.inl q1427
    | exact Or.inl q1428
    | exact Or.inl q1429
    | exact Or.inl q1434
    | exact Or.inr (Or.inl ⟨_, _, rfl, q2613⟩)
    | exact Or.inl q1324
    | exact Or.inl q1445
    | exact Or.inl q1446
    | exact Or.inl q1447
    | exact Or.inl q1448
    | exact Or.inl q1449
    | exact Or.inl q1450
    | exact Or.inl q1451
    | exact Or.inl q1452
    | exact Or.inl q1454
    | exact Or.inl q1686
    | exact Or.inr (Or.inl ⟨_, _, rfl, q2614⟩)
    | exact Or.inl q1327
    | exact Or.inl q1459
    | exact Or.inl q1460
    | exact Or.inl q1461
    | exact Or.inl q1462
    | exact Or.inl q1463
    | exact Or.inl q1464
    | exact Or.inl q1465
    | exact Or.inl q1466
    | exact Or.inl q1468
    | exact Or.inr (Or.inl ⟨_, _, rfl, q2615⟩)
    | exact Or.inl q1325
    | exact Or.inl q1473
    | exact Or.inl q1474
    | exact Or.inl q1475
    | exact Or.inl q1476
    | exact Or.inl q1477
    | exact Or.inl q1478
    | exact Or.inl q1479
    | exact Or.inl q1480
    | exact Or.inl q1482
    | exact Or.inr (Or.inl ⟨_, _, rfl, q2616⟩)
    | exact Or.inr (Or.inl ⟨_, _, rfl, q2628⟩)
    | exact Or.inr (Or.inl ⟨_, _, rfl, q2629⟩)
    | exact Or.inl q145
    | exact Or.inl q146
    | exact Or.inr (Or.inl ⟨_, _, rfl, q2622⟩)
    | exact Or.inr (Or.inl ⟨_, _, rfl, q2623⟩)
    | exact Or.inr (Or.inl ⟨_, _, rfl, q2624⟩)
    | exact Or.inr (Or.inl ⟨_, _, rfl, q2625⟩)
    | exact Or.inr (Or.inl ⟨_, _, rfl, q2626⟩)
    | exact Or.inr (Or.inl ⟨_, _, rfl, q2627⟩)
    | exact Or.inl q120
    | exact Or.inl q1312
    | exact Or.inl q1313
    | exact Or.inl q1314
    | exact Or.inl q1315
    | exact Or.inl q1317
    | exact Or.inl q1319
    | exact Or.inl q1320
    | exact Or.inl q1321
    | exact Or.inr (Or.inr ⟨_, rfl, q1337⟩)
    | exact Or.inl q1341
    | exact Or.inl q1342
    | exact Or.inl q1344
    | exact Or.inl q1345
    | exact Or.inl q1346
    | exact Or.inl q1383
    | exact Or.inl q1350
    | exact Or.inl q1351
    | exact Or.inl q1352
    | exact Or.inl q1353
    | exact Or.inl q1359
    | exact Or.inl q1361
    | exact Or.inl q1363
    | exact Or.inl q1365
    | exact Or.inl q1367
    | exact Or.inl q1369
    | exact Or.inr (Or.inr ⟨_, rfl, q1375⟩)
    | exact Or.inr (Or.inr ⟨_, rfl, q1376⟩)
    | exact Or.inl q1378
    | exact Or.inl q1379
    | exact Or.inl q1380
    | exact Or.inl q1381
    | exact Or.inl q1382
    | exact Or.inl q1384
    | exact Or.inl q1397
    | exact Or.inl q1398
    | exact Or.inl q1510
    | exact Or.inl q1511
    | exact Or.inl q2584
    | exact Or.inr (Or.inl ⟨_, _, rfl, q2620⟩)
    | exact Or.inl q121
    | exact Or.inl q1309
    | exact Or.inl q1310
    | exact Or.inl q1311
    | exact Or.inl q1340
    | exact Or.inr (Or.inr ⟨_, rfl, q1373⟩)
    | exact Or.inr (Or.inr ⟨_, rfl, q1374⟩)
    | exact Or.inl q1394
    | exact Or.inl q1395
    | exact Or.inl q1396
    | exact Or.inl q1507
    | exact Or.inl q1508
    | exact Or.inl q1509
    | exact Or.inl q122
    | exact Or.inl q1306
    | exact Or.inl q1307
    | exact Or.inl q1308
    | exact Or.inl q1336
    | exact Or.inl q1339
    | exact Or.inr (Or.inr ⟨_, rfl, q1371⟩)
    | exact Or.inr (Or.inr ⟨_, rfl, q1372⟩)
    | exact Or.inr (Or.inl ⟨_, _, rfl, q1385⟩)
    | exact Or.inl q1391
    | exact Or.inl q1392
    | exact Or.inl q1393
    | exact Or.inl q1305
    | exact Or.inl q1328
    | exact Or.inl q1335
    | exact Or.inl q1338
    | exact Or.inl q1358
    | exact Or.inl q1360
    | exact Or.inl q1362
    | exact Or.inl q1364
    | exact Or.inl q1366
    | exact Or.inl q1368
    | exact Or.inl q1377
    | exact Or.inr (Or.inl ⟨_, _, rfl, q2611⟩)
    | exact Or.inl q124
    | exact Or.inl q1326
    | exact Or.inl q1387
    | exact Or.inl q1388
    | exact Or.inl q1389
    | exact Or.inl q1390
    | exact Or.inl q1399
    | exact Or.inl q1400
    | exact Or.inl q1401
    | exact Or.inl q1402
    | exact Or.inl q1403
    | exact Or.inl q1404
    | exact Or.inl q1405
    | exact Or.inr (Or.inl ⟨_, _, rfl, q1406⟩)
    | exact Or.inl q1407
    | exact Or.inl q1413
    | exact Or.inl q1414
    | exact Or.inl q1415
    | exact Or.inr (Or.inl ⟨_, _, rfl, q2612⟩)
    | exact Or.inl q144
    | exact Or.inl q369
    | exact Or.inl q1386
    | exact Or.inl q1522
    | exact Or.inr (Or.inl ⟨_, _, rfl, q2590⟩)
    | exact Or.inl q160
    | exact Or.inl q164
    | exact Or.inr (Or.inl ⟨_, _, rfl, q2591⟩)
    | exact Or.inl q770
    | exact Or.inr (Or.inl ⟨_, _, rfl, q2599⟩)
    | exact Or.inr (Or.inl ⟨_, _, rfl, q2600⟩)
    | exact Or.inr (Or.inl ⟨_, _, rfl, q2601⟩)
    | exact Or.inr (Or.inl ⟨_, _, rfl, q2602⟩)
    | exact Or.inr (Or.inl ⟨_, _, rfl, q2603⟩)
    | exact Or.inr (Or.inl ⟨_, _, rfl, q2604⟩)
    | exact Or.inr (Or.inl ⟨_, _, rfl, q2605⟩)
    | exact Or.inr (Or.inl ⟨_, _, rfl, q2606⟩)
    | exact Or.inl q916
    | exact Or.inl q173
    | exact Or.inl q474
    | exact Or.inr (Or.inl ⟨_, _, rfl, q2607⟩)
    | exact Or.inr (Or.inl ⟨_, _, rfl, q2608⟩)
    | exact Or.inr (Or.inl ⟨_, _, rfl, q2609⟩)
    | exact Or.inl q1265
    | exact Or.inl q1266
    | exact Or.inr (Or.inl ⟨_, _, rfl, q2610⟩)
    | exact Or.inl q1322
    | exact Or.inl q1497
    | exact Or.inl q1498
    | exact Or.inl q1499
    | exact Or.inl q1500
    | exact Or.inl q1501
    | exact Or.inl q1502
    | exact Or.inl q1506
    | exact Or.inl q1516
    | exact Or.inl q1517
    | exact Or.inr (Or.inl ⟨_, _, rfl, q2617⟩)
    | exact Or.inl q1737
    | exact Or.inl q1763
    | exact Or.inr (Or.inl ⟨_, _, rfl, q2618⟩)
    | exact Or.inr (Or.inl ⟨_, _, rfl, q2619⟩)
    | exact Or.inr (Or.inl ⟨_, _, rfl, q2592⟩)
    | exact Or.inr (Or.inl ⟨_, _, rfl, q2596⟩)
    | exact Or.inr (Or.inl ⟨_, _, rfl, q2593⟩)
    | exact Or.inl q245
    | exact Or.inl q261
    | exact Or.inr (Or.inl ⟨_, _, rfl, q2594⟩)
    | exact Or.inl q1974
    | exact Or.inl q2151
    | exact Or.inr (Or.inl ⟨_, _, rfl, q2595⟩)
    | exact Or.inr (Or.inl ⟨_, _, rfl, q2597⟩)
    | exact Or.inl q651
    | exact Or.inl q710
    | exact Or.inr (Or.inl ⟨_, _, rfl, q2598⟩)
    | exact Or.inr (Or.inl ⟨_, _, rfl, q2639⟩)
    | exact Or.inr (Or.inl ⟨_, _, rfl, q2642⟩)
    | exact Or.inr (Or.inl ⟨_, _, rfl, q2647⟩)
    | exact Or.inr (Or.inl ⟨_, _, rfl, q2646⟩)
    | exact Or.inr (Or.inl ⟨_, _, rfl, q2644⟩)
    | exact Or.inr (Or.inl ⟨_, _, rfl, q2645⟩)
    | exact Or.inr (Or.inl ⟨_, _, rfl, q2637⟩)
    | exact Or.inr (Or.inl ⟨_, _, rfl, q2641⟩)
    | exact Or.inr (Or.inl ⟨_, _, rfl, q2635⟩)
    | exact Or.inr (Or.inl ⟨_, _, rfl, q2640⟩)
    | exact Or.inr (Or.inl ⟨_, _, rfl, q2636⟩)
    | exact Or.inr (Or.inl ⟨_, _, rfl, q2634⟩)
    | exact Or.inr (Or.inl ⟨_, _, rfl, q2648⟩)
    | exact Or.inr (Or.inl ⟨_, _, rfl, q2643⟩)
    | exact Or.inr (Or.inl ⟨_, _, rfl, q2638⟩)
    | exact Or.inl q1637
    | exact Or.inl q216
    | exact Or.inl q636
    | exact Or.inl q739
    | exact Or.inl q740
    | exact Or.inl q741
    | exact Or.inl q742
    | exact Or.inl q743
    | exact Or.inl q744
    | exact Or.inl qs17
    | exact Or.inl q1522
    | exact absurd h2 (by decide)
theorem xat_S0 : ∀ w ∈ vx_at0 "ReflectMirror" 268 "java/lang/ArrayStoreException" ["java/lang/RuntimeException", "java/lang/Exception"], xAt w := by
  intro w hw
  obtain ⟨h1, h2⟩ := List.mem_filter.mp hw
  simp only [Bundle.npeArmAtoms, Bundle.messageArmAtoms, Bundle.ownAtoms0, Bundle.throwableAtoms, Bundle.throwableSAtoms, Bundle.chainSAtoms, Bundle.chain0Atoms, Bundle.stringAtoms, Bundle.npeAtoms, Bundle.passAtoms, Bundle.passSAtoms, List.mem_append, List.mem_cons, List.not_mem_nil, or_false] at h1
  repeat' (refine Or.elim h1 (fun h1 => ?_) (fun h1 => ?_))
  all_goals subst h1
  all_goals first
    | exact Or.inr (Or.inl ⟨_, _, rfl, q2621⟩)
    | exact Or.inl q1423
    | exact Or.inl q1440
    | exact Or.inl q1323
    | exact Or.inl q1424
    | exact Or.inl q1425
    | exact Or.inl q1426
    | exact Or.inl q1427
    | exact Or.inl q1428
    | exact Or.inl q1429
    | exact Or.inl q1434
    | exact Or.inr (Or.inl ⟨_, _, rfl, q2613⟩)
    | exact Or.inl q127
    | exact Or.inl q1324
    | exact Or.inl q1442
    | exact Or.inl q1443
    | exact Or.inl q1444
    | exact Or.inl q1445
    | exact Or.inl q1446
    | exact Or.inl q1447
    | exact Or.inl q1448
    | exact Or.inl q1449
    | exact Or.inl q1450
    | exact Or.inl q1451
    | exact Or.inl q1452
    | exact Or.inr (Or.inl ⟨_, _, rfl, q1453⟩)
    | exact Or.inl q1454
    | exact Or.inl q1684
    | exact Or.inl q1685
    | exact Or.inl q1686
    | exact Or.inr (Or.inl ⟨_, _, rfl, q2614⟩)
    | exact Or.inl q1327
    | exact Or.inl q1459
    | exact Or.inl q1460
    | exact Or.inl q1461
    | exact Or.inl q1462
    | exact Or.inl q1463
    | exact Or.inl q1464
    | exact Or.inl q1465
    | exact Or.inl q1466
    | exact Or.inl q1468
    | exact Or.inr (Or.inl ⟨_, _, rfl, q2615⟩)
    | exact Or.inl q1325
    | exact Or.inl q1473
    | exact Or.inl q1474
    | exact Or.inl q1475
    | exact Or.inl q1476
    | exact Or.inl q1477
    | exact Or.inl q1478
    | exact Or.inl q1479
    | exact Or.inl q1480
    | exact Or.inl q1482
    | exact Or.inr (Or.inl ⟨_, _, rfl, q2616⟩)
    | exact Or.inr (Or.inl ⟨_, _, rfl, q2628⟩)
    | exact Or.inr (Or.inl ⟨_, _, rfl, q2629⟩)
    | exact Or.inl q145
    | exact Or.inl q146
    | exact Or.inr (Or.inl ⟨_, _, rfl, q2622⟩)
    | exact Or.inr (Or.inl ⟨_, _, rfl, q2623⟩)
    | exact Or.inr (Or.inl ⟨_, _, rfl, q2624⟩)
    | exact Or.inr (Or.inl ⟨_, _, rfl, q2625⟩)
    | exact Or.inr (Or.inl ⟨_, _, rfl, q2626⟩)
    | exact Or.inr (Or.inl ⟨_, _, rfl, q2627⟩)
    | exact Or.inl q120
    | exact Or.inl q1312
    | exact Or.inl q1313
    | exact Or.inl q1314
    | exact Or.inl q1315
    | exact Or.inl q1317
    | exact Or.inl q1319
    | exact Or.inl q1320
    | exact Or.inl q1321
    | exact Or.inr (Or.inr ⟨_, rfl, q1337⟩)
    | exact Or.inl q1341
    | exact Or.inl q1342
    | exact Or.inl q1344
    | exact Or.inl q1345
    | exact Or.inl q1346
    | exact Or.inl q1383
    | exact Or.inl q1350
    | exact Or.inl q1351
    | exact Or.inl q1352
    | exact Or.inl q1353
    | exact Or.inl q1359
    | exact Or.inl q1361
    | exact Or.inl q1363
    | exact Or.inl q1365
    | exact Or.inl q1367
    | exact Or.inl q1369
    | exact Or.inr (Or.inr ⟨_, rfl, q1375⟩)
    | exact Or.inr (Or.inr ⟨_, rfl, q1376⟩)
    | exact Or.inl q1378
    | exact Or.inl q1379
    | exact Or.inl q1380
    | exact Or.inl q1381
    | exact Or.inl q1382
    | exact Or.inl q1384
    | exact Or.inl q1397
    | exact Or.inl q1398
    | exact Or.inl q1510
    | exact Or.inl q1511
    | exact Or.inl q2584
    | exact Or.inr (Or.inl ⟨_, _, rfl, q2620⟩)
    | exact Or.inl q121
    | exact Or.inl q1309
    | exact Or.inl q1310
    | exact Or.inl q1311
    | exact Or.inl q1340
    | exact Or.inr (Or.inr ⟨_, rfl, q1373⟩)
    | exact Or.inr (Or.inr ⟨_, rfl, q1374⟩)
    | exact Or.inl q1394
    | exact Or.inl q1395
    | exact Or.inl q1396
    | exact Or.inl q1507
    | exact Or.inl q1508
    | exact Or.inl q1509
    | exact Or.inl q122
    | exact Or.inl q1306
    | exact Or.inl q1307
    | exact Or.inl q1308
    | exact Or.inl q1336
    | exact Or.inl q1339
    | exact Or.inr (Or.inr ⟨_, rfl, q1371⟩)
    | exact Or.inr (Or.inr ⟨_, rfl, q1372⟩)
    | exact Or.inr (Or.inl ⟨_, _, rfl, q1385⟩)
    | exact Or.inl q1391
    | exact Or.inl q1392
    | exact Or.inl q1393
    | exact Or.inl q1305
    | exact Or.inl q1328
    | exact Or.inl q1335
    | exact Or.inl q1338
    | exact Or.inl q1358
    | exact Or.inl q1360
    | exact Or.inl q1362
    | exact Or.inl q1364
    | exact Or.inl q1366
    | exact Or.inl q1368
    | exact Or.inl q1377
    | exact Or.inr (Or.inl ⟨_, _, rfl, q2611⟩)
    | exact Or.inl q1326
    | exact Or.inl q1390
    | exact Or.inl q1399
    | exact Or.inl q1400
    | exact Or.inl q1401
    | exact Or.inl q1402
    | exact Or.inl q1403
    | exact Or.inl q1404
    | exact Or.inl q1405
    | exact Or.inl q1407
    | exact Or.inl q1415
    | exact Or.inr (Or.inl ⟨_, _, rfl, q2612⟩)
    | exact Or.inl q144
    | exact Or.inl q369
    | exact Or.inl q1441
    | exact Or.inl q1683
    | exact Or.inr (Or.inl ⟨_, _, rfl, q2590⟩)
    | exact Or.inl q160
    | exact Or.inl q164
    | exact Or.inr (Or.inl ⟨_, _, rfl, q2591⟩)
    | exact Or.inl q770
    | exact Or.inr (Or.inl ⟨_, _, rfl, q2599⟩)
    | exact Or.inr (Or.inl ⟨_, _, rfl, q2600⟩)
    | exact Or.inr (Or.inl ⟨_, _, rfl, q2601⟩)
    | exact Or.inr (Or.inl ⟨_, _, rfl, q2602⟩)
    | exact Or.inr (Or.inl ⟨_, _, rfl, q2603⟩)
    | exact Or.inr (Or.inl ⟨_, _, rfl, q2604⟩)
    | exact Or.inr (Or.inl ⟨_, _, rfl, q2605⟩)
    | exact Or.inr (Or.inl ⟨_, _, rfl, q2606⟩)
    | exact Or.inl q916
    | exact Or.inl q173
    | exact Or.inl q474
    | exact Or.inr (Or.inl ⟨_, _, rfl, q2607⟩)
    | exact Or.inr (Or.inl ⟨_, _, rfl, q2608⟩)
    | exact Or.inr (Or.inl ⟨_, _, rfl, q2609⟩)
    | exact Or.inl q1265
    | exact Or.inl q1266
    | exact Or.inr (Or.inl ⟨_, _, rfl, q2610⟩)
    | exact Or.inl q1322
    | exact Or.inl q1497
    | exact Or.inl q1498
    | exact Or.inl q1499
    | exact Or.inl q1500
    | exact Or.inl q1501
    | exact Or.inl q1502
    | exact Or.inl q1506
    | exact Or.inl q1516
    | exact Or.inl q1517
    | exact Or.inr (Or.inl ⟨_, _, rfl, q2617⟩)
    | exact Or.inl q1737
    | exact Or.inl q1763
    | exact Or.inr (Or.inl ⟨_, _, rfl, q2618⟩)
    | exact Or.inr (Or.inl ⟨_, _, rfl, q2619⟩)
    | exact Or.inr (Or.inl ⟨_, _, rfl, q2592⟩)
    | exact Or.inr (Or.inl ⟨_, _, rfl, q2596⟩)
    | exact Or.inr (Or.inl ⟨_, _, rfl, q2593⟩)
    | exact Or.inl q245
    | exact Or.inl q261
    | exact Or.inr (Or.inl ⟨_, _, rfl, q2594⟩)
    | exact Or.inl q1974
    | exact Or.inl q2151
    | exact Or.inr (Or.inl ⟨_, _, rfl, q2595⟩)
    | exact Or.inr (Or.inl ⟨_, _, rfl, q2597⟩)
    | exact Or.inl q651
    | exact Or.inl q710
    | exact Or.inr (Or.inl ⟨_, _, rfl, q2598⟩)
    | exact Or.inr (Or.inl ⟨_, _, rfl, q2639⟩)
    | exact Or.inr (Or.inl ⟨_, _, rfl, q2642⟩)
    | exact Or.inr (Or.inl ⟨_, _, rfl, q2647⟩)
    | exact Or.inr (Or.inl ⟨_, _, rfl, q2646⟩)
    | exact Or.inr (Or.inl ⟨_, _, rfl, q2644⟩)
    | exact Or.inr (Or.inl ⟨_, _, rfl, q2645⟩)
    | exact Or.inr (Or.inl ⟨_, _, rfl, q2637⟩)
    | exact Or.inr (Or.inl ⟨_, _, rfl, q2641⟩)
    | exact Or.inr (Or.inl ⟨_, _, rfl, q2635⟩)
    | exact Or.inr (Or.inl ⟨_, _, rfl, q2640⟩)
    | exact Or.inr (Or.inl ⟨_, _, rfl, q2636⟩)
    | exact Or.inr (Or.inl ⟨_, _, rfl, q2634⟩)
    | exact Or.inr (Or.inl ⟨_, _, rfl, q2648⟩)
    | exact Or.inr (Or.inl ⟨_, _, rfl, q2643⟩)
    | exact Or.inr (Or.inl ⟨_, _, rfl, q2638⟩)
    | exact Or.inl q1637
    | exact Or.inl q216
    | exact Or.inl q636
    | exact Or.inl q739
    | exact Or.inl q740
    | exact Or.inl q741
    | exact Or.inl q742
    | exact Or.inl q743
    | exact Or.inl q744
    | exact Or.inl qs17
    | exact Or.inl q1683
    | exact absurd h2 (by decide)
