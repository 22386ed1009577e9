/-! ===== a nest mate's method with a table ===== -/
section ZNW
variable {p : Program} {l : Launch} {e : Env} {R : Room} {s : State} {m : MethodId} {args : Array Value} {below : List Frame} {meth : Method} {c : Code} {H : Heap} {locs : List Loc} {cells slots : Nat}
theorem zy_runNW {y : MethodName} {bytes cc : ByteArray} {maxL nL mc ms index : Nat} {ret : Option FieldType} {hh : List (Nat × Nat × Nat × Nat)} {ws : List Cond} {rm : Room} {Pc : Array Value → State → Prop} {Qc : Array Value → State → Outcome → State → Prop} {XC : Addr → String → State → State → Prop} {free : Addr → Prop} {Ts : List Cond} {own Cn host : String} {b : Addr} {As rest : List Value} {g : JFrame}
    (S : CallFix p m c cc nL s args Ts own) (hM : vx_Met l y ws rm Pc Qc XC mc ms free) (hrc : rm.cells = mc) (hrs : rm.slots = ms) (hfr : rm.frames + 1 ≤ R.frames) (hlo : 8 + (maxL + 11) + rm.locals ≤ R.locals) (hG : GoodIn Ts ws) (hc : Cond.codeWith y bytes maxL ret hh ∈ ws)
    (hini : (Cond.initialized y.cls).before args s = true) (hl : (Cond.methodLinkNest own index y host).before args s = true) (hin : (Cond.instanceMethod y).before args s = true) (hse : (Cond.selects Cn y y).before args s = true) (hy : y.cls ≠ "java/lang/invoke/MethodHandle" ∧ y.cls ≠ "java/lang/invoke/VarHandle" ∧ (parseMethodDescriptor y.desc).map (fun d => d.parameters.length) = some As.length) (hp : PreV s H Cn b Pc As)
    (hg : g.method = m) (hsize : g.locals.size = nL) (hstack : g.stack = As.reverse ++ .ref b :: rest) (hW : 2 * g.monitorRoom + (rest.map fun v => v.category).sum ≤ 8) (hdg : decode cc g.pc = .ok (.invokevirtual index, 3)) (hf : cells + mc ≤ R.cells ∧ slots + ms ≤ R.slots) :
    vx_Run p l e R s m args below meth c H locs cells slots mc ms g rest (Qc (Value.ref b :: As).toArray) XC free := by
  obtain ⟨hx, hb, hml, hown, hts⟩ := S
  have hw1 := pay_in hts hG
  have hK : vx_Back l R p e below s args y 3 8 (PreOf R mc ms Pc) (PostOf Qc mc ms free) (vx_Post XC mc ms free) := vx_backW (hh := hh) (bytes := bytes) (maxL := maxL) (ret := ret) hM hp.1 hrc hrs hfr hlo hw1 hc (fun a' U hW => word_at hW (Or.inl (by first | rfl | simp [Cond.onTables, Cond.keeps, Cond.steady])) hini)
  obtain ⟨mk, methM, hnamed, hmethM, hstM, habM⟩ := Cond.instanceMethod_spec hin
  obtain ⟨m8, methM', cM, hn8, hmethM', -, -, -, -, -, -, hsigM⟩ := Cond.codeWith_spec (hts _ (hG _ hc).1)
  cases Option.some.inj (hn8.symm.trans hnamed)
  cases hmethM.symm.trans hmethM'
  obtain ⟨c2, r2, m2, q1, q2, q3, q4, kP, hkP, hkPi⟩ := Cond.selects_spec hse
  obtain ⟨-, ⟨cellB, hcB, hoB, hclB⟩, hPc⟩ := hp
  cases hclB.symm.trans q1
  cases (State.methodFound?_of_named hnamed ⟨hy.1, hy.2.1⟩).symm.trans q2
  cases hnamed.symm.trans q3
  have hlen : As.length = methM.sig.parameters.length := by
    have h2 := hy.2.2
    rw [hsigM] at h2
    exact (Option.some.inj h2).symm
  intro T hT X
  have hselP : selectMethod e.platform s.vm cellB.cls mk = .method mk := by rw [Launch.admits_selectMethod X.admits]; exact q4
  obtain ⟨vm1, X1, hstep1⟩ := X.invokevirtualNest hx hown hl hnamed hmethM hstM hkP hkPi ⟨hy.1, hy.2.1⟩ (a := b) (cell := cellB) (by rw [hT]; exact hcB)
    (fun z h => by rw [h] at hoB; cases hoB) hselP hmethM habM hkP hkPi (g := g) hg (argsL := As) (rest := rest) hlen hstack (by rw [hb]; exact hdg)
  rcases hK m meth c ⟨T.setVm vm1, locs, cells, slots⟩ { g with stack := rest } (.invokevirtual index) mk (Value.ref b :: As).toArray X1 hg (hsize.trans hml.symm) (by rw [hb]; exact hdg) hW (X1.named hnamed) ⟨hf.1, hf.2, hPc (T.setVm vm1) hT X1.warmed⟩ with ⟨v, ⟨U', l2, c2, s2⟩, X', ⟨g', mk', t, L, e1, e2, hq, h1, hL, h2, h3⟩, st⟩ | ⟨q, ⟨U', l2, c2, s2⟩, X', ⟨g', mk', t, L, E, ce, e1, e2, hq, hce, hcv, hcl, h1, hL, h2, h3⟩, st⟩
  · dsimp only [Pt.U, Pt.locs, Pt.cells, Pt.slots] at X' e1 e2 h1 h2 h3 st
    subst h1; subst h2; subst h3
    exact Or.inl ⟨v, (T.setVm vm1).calling g' mk' (Value.ref b :: As).toArray, t, U', L, hT, X', hL, e1, e2, hq, fun target h => hstep1 _ fun acts => by rw [doInvoke_state]; exact st.trans h⟩
  · dsimp only [Pt.U, Pt.locs, Pt.cells, Pt.slots] at X' e1 e2 h1 h2 h3 st hcl
    subst h1; subst h2; subst h3
    exact Or.inr ⟨q, (T.setVm vm1).calling g' mk' (Value.ref b :: As).toArray, t, U', L, E, ce, hT, X', hL, e1, e2, hq, hce, hcv, vx_cls X1.warmed hcl, hstep1 _ fun acts => by rw [doInvoke_state]; exact st⟩
end ZNW
section ZNWr
variable {κ : zK} {own nm : String} {cc : ByteArray} {nL : Nat} {ret : Option FieldType} {rm : Room} {P : Option Value → (Heap → Prop) → Prop} {Pic : Heap → Prop} {n k pc : Nat} {lv : List (Nat × Value)} {st rest : List Value}
variable {θ : zTh} {l : Launch} {y : MethodName} {cc' : ByteArray} {nL' idx : Nat} {ret' : Option FieldType} {rm' : Room} {As : List Value} {P' : Option Value → (Heap → Prop) → Prop} {PX' : String → Nat → (Heap → Prop) → Prop} {Cn : String}
theorem zx_callVNW (C : ZC κ own nm cc nL ret rm P) (hκ : κ.1 = θ) (hκl : κ.2.2.1 = l) {ci b N9 : Nat} {T : u_T} {host : String} {hh' : List (Nat × Nat × Nat × Nat)} (hT : zTb θ) (q : Nat) (hM : zMX θ l y (wsW_ y cc' nL' ret' hh') rm' (.ref b :: As) Pic P' PX') (d : decode cc pc = .ok (.invokevirtual idx, 3)) (h1 : Cond.methodLinkNest own idx y host ∈ lw_tbl) (h2 : Cond.instanceMethod y ∈ lw_all) (h3 : Cond.selects Cn y y ∈ lw_all) (h5 : Cond.initialized y.cls ∈ lw_all) (h6 : Cond.codeWith y cc' nL' ret' hh' ∈ lw_all) (hd : zNd y y.cls As.length)
    (hf : rm'.frames + 1 ≤ rm.frames) (hlo : 8 + (nL' + 11) + rm'.locals ≤ rm.locals) (hce : n + rm'.cells ≤ rm.cells) (hsl : k + rm'.slots ≤ rm.slots) (hr : zrec θ ci b Pic) (hc : zCl[ci]? = some (Cn, T, N9)) (hst : st = As.reverse ++ .ref b :: rest) (hsz : (rest.map fun v => v.category).sum ≤ 8) (hq : pc + 3 = q)
    (kk : ∀ (v : Option Value) (Pic1 : Heap → Prop), P' v Pic1 → Z κ Pic1 (n + rm'.cells) (k + rm'.slots) q lv (v.toList ++ rest))
    (kx : ∀ (E : String) (b9 : Nat) (Pic1 : Heap → Prop), PX' E b9 Pic1 → zX κ Pic1 (n + rm'.cells) (k + rm'.slots) pc lv b9 E) : Z κ Pic n k pc lv st := by
  subst hq; subst hst; subst hκ; subst hκl
  obtain ⟨θ, p, l, e, R, s, m, args, below, meth, c, Q⟩ := κ
  obtain ⟨hx, hb, hml, hown, hts, hU, hlk, hret, hnm, rfl, hQ⟩ := C
  intro H locs ls hP hS hl
  refine zx_run (zy_runNW (As := As) (rest := rest) ⟨hx, hb, hml, hown, hts⟩ hM rfl rfl hf hlo (lw_methW h6) List.mem_cons_self (hts _ h5) (va_Nw.use rfl (hT.mlink hU h1)) (hts _ h2) (hts _ h3) hd ⟨zPc_blind, zrec_cell hr hc hU hP, fun U hU' hW => ⟨rfl, by rw [hU']; exact hP, hU.on hS hU' hW⟩⟩ rfl (by rw [← hml]; exact hl.1) rfl (lv_room hsz) d ⟨hce, hsl⟩) hS hl kk kx
end ZNWr
theorem rm_le {X c k R : Nat} (h : R = k + c) (h1 : Nat.ble X c = true) : X ≤ R := by subst h; exact Nat.le_trans (Nat.le_of_ble_eq_true h1) (Nat.le_add_left c k)

