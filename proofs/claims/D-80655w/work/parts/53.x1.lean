/-! ===== calls of private methods on objects of a class below ===== -/
theorem va_Nw.warmP {x : MethodName} {s U : State} (hW : s.WarmedH U.vm) (hZ : va_Nw (.privateMethod x) s) : va_Nw (.privateMethod x) U := va_tabs rfl (rfl : (s.setVm U.vm).vm = U.vm) (by rw [Cond.privateMethod_setVm hW.alike]; exact hZ)
theorem zTb.priv {θ : zTh} {s : State} (h : zTb θ) (hU : zU θ s) {x : MethodName} (hw : Cond.privateMethod x ∈ lw_tbl) : s.PrivateAt x := Cond.privateMethod_at (args := #[]) (va_Nw.warmP hU.1 (h.1 _ hw rfl))
section XPR
variable {p : Program} {l : Launch} {e : Env} {R : Room} {s : State} {m : MethodId} {args : Array Value} {below : List Frame} {meth : Method} {c : Code} {T : State} {H : Heap} {locs : List Loc} {cells slots : Nat}
theorem x_callP0 (X : Stand p l e R s m args below meth c T locs cells slots) (hexec : p.tables.exec = Jvm.exec) {own C2 : String} {index : Nat} {y x2 y2 : MethodName} {bytes : ByteArray} {maxL : Nat} {ret : Option FieldType}
    (hown : s.vm.findClass own = some m.cls) (hlink : (Cond.methodLink own index y).before args s = true) (hinst : (Cond.instanceMethod y).before args s = true) (hpriv : s.PrivateAt y) (hs2 : (Cond.selects C2 x2 y2).before args s = true) (hy2 : y2.cls = y.cls)
    (hcode : (Cond.code y bytes maxL ret).before args s = true) (hy : y.cls ≠ "java/lang/invoke/MethodHandle" ∧ y.cls ≠ "java/lang/invoke/VarHandle")
    {W : Nat} {Pre : Pt → Array Value → Prop} {Post : Pt → Array Value → Option Value → Pt → Prop} (hK : Back l R p e below s args y 3 W Pre Post)
    {b : Addr} {cellB : Cell} (hcell : T.heap[b]? = some cellB) (hobj : cellB.vm.isStatics = false)
    {g : JFrame} (hg : g.method = m) (hsize : g.locals.size = c.maxLocals) {argsL rest : List Value} (hlen : ∀ sig, parseMethodDescriptor y.desc = some sig → argsL.length = sig.parameters.length)
    (hstack : g.stack = argsL.reverse ++ .ref b :: rest) (hW : 2 * g.monitorRoom + (rest.map fun v => v.category).sum ≤ W) (hdg : decode c.code g.pc = .ok (.invokevirtual index, 3))
    (hpre : ∀ vm₁, s.WarmedH vm₁ → Pre ⟨T.setVm vm₁, locs, cells, slots⟩ (Value.ref b :: argsL).toArray) :
    ∃ (v : Option Value) (vm₁ : Vm) (B : Pt), s.WarmedH vm₁ ∧ Stand p l e R s m args below meth c B.U B.locs B.cells B.slots ∧ Post ⟨T.setVm vm₁, locs, cells, slots⟩ (Value.ref b :: argsL).toArray v B ∧
      ∀ target, Steps p.tables e below (B.U.setTop { g with pc := g.pc + 3, stack := v.toList ++ rest }) target → Steps p.tables e below (T.setTop g) target := by
  obtain ⟨mk, methM, hnamed, hmethM, hstM, habM⟩ := Cond.instanceMethod_spec hinst
  obtain ⟨methM', cM, hmethM', -, -, -, -, -, -, hsigM⟩ := Cond.code_spec hnamed hcode
  cases hmethM.symm.trans hmethM'
  obtain ⟨c2, r2, m2, q1, q2, q3, q4, kP, hkP, hkPi⟩ := Cond.selects_spec hs2
  have e1 := findClass_of_methodNamed q3
  have e2 := findClass_of_methodNamed hnamed
  rw [hy2, e2] at e1
  rw [← Option.some.inj e1] at hkP
  have hselP : selectMethod e.platform s.vm cellB.cls mk = .method mk := selectMethod_private hmethM (hpriv mk methM hnamed hmethM)
  obtain ⟨vm₁, X₁, hstep₁⟩ := X.invokevirtual hexec hown hlink hnamed hmethM hstM hkP hkPi hy (a := b) (cell := cellB) hcell
    (fun z h => by rw [h] at hobj; cases hobj) hselP hmethM habM hkP hkPi (g := g) hg (argsL := argsL) (rest := rest) (hlen _ hsigM) hstack hdg
  obtain ⟨v, B, X', hpost, hsteps⟩ := hK m meth c ⟨T.setVm vm₁, locs, cells, slots⟩ { g with stack := rest } (.invokevirtual index) mk (Value.ref b :: argsL).toArray X₁ hg hsize hdg hW (X₁.named hnamed) (hpre vm₁ X₁.warmed)
  exact ⟨v, vm₁, B, X₁.warmed, X', hpost, fun target h => hstep₁ _ fun acts => by rw [doInvoke_state]; exact hsteps.trans h⟩
theorem x_runP {y x2 y2 : MethodName} {bytes cc : ByteArray} {maxL nL mc ms n index : Nat} {ret : Option FieldType} {ws : List Cond} {rm : Room} {Pc : Array Value → State → Prop} {Qc : Array Value → State → Outcome → State → Prop} {free : Addr → Prop} {Ts : List Cond} {own C C2 : String} {b : Addr} {As rest : List Value} {g : JFrame}
    (S : CallFix p m c cc nL s args Ts own) (hM : Met l y ws rm Pc Qc mc ms free) (cw : CallB R s args own index y bytes maxL ret ws rm mc ms n) (hin : (Cond.instanceMethod y).before args s = true) (hpriv : s.PrivateAt y) (hs2 : (Cond.selects C2 x2 y2).before args s = true) (hy2 : y2.cls = y.cls) (hp : PreV s H C b Pc As)
    (hg : g.method = m) (hn : As.length = n) (hsize : g.locals.size = nL) (hstack : g.stack = As.reverse ++ .ref b :: rest) (hW : 2 * g.monitorRoom + (rest.map fun v => v.category).sum ≤ 8) (hdg : decode cc g.pc = .ok (.invokevirtual index, 3)) (hf : cells + mc ≤ R.cells ∧ slots + ms ≤ R.slots) :
    va_Run p l e R s m args below meth c H locs cells slots mc ms g rest (Qc (Value.ref b :: As).toArray) (free) := by
  have hK : Back l R p e below s args y 3 8 (PreOf R mc ms Pc) (PostOf Qc mc ms free) := callBack cw hM hp.1
  obtain ⟨-, -, -, -, -, -, hcode, -, hy, hlen, hl⟩ := cw
  obtain ⟨hx, hb, hml, ho, -⟩ := S
  obtain ⟨-, ⟨cellB, hcB, hoB, hclB⟩, hPc⟩ := hp
  intro T hT X
  obtain ⟨v, vm₁, ⟨U', l2, c2, s2⟩, hW₁, X', ⟨g', mk, t, L, e1, e2, hq, h1, hL, h2, h3⟩, st⟩ := x_callP0 X hx (bytes := bytes) (maxL := maxL) (ret := ret) ho hl hin hpriv hs2 hy2 hcode hy hK (by rw [hT]; exact hcB) hoB hg (hsize.trans hml.symm) (argsL := As) (rest := rest) (fun sig h => hn.trans (hlen sig h)) hstack hW (by rw [hb]; exact hdg)
    (fun vm₁ hW₁ => ⟨hf.1, hf.2, hPc (T.setVm vm₁) hT hW₁⟩)
  dsimp only [Pt.U, Pt.locs, Pt.cells, Pt.slots] at X' e1 e2 h1 h2 h3 st
  subst h1; subst h2; subst h3
  exact ⟨v, (T.setVm vm₁).calling g' mk (Value.ref b :: As).toArray, t, U', L, hT, X', hL, e1, e2, hq, st⟩
end XPR
theorem z_callP {κ : zK} {own nm : String} {cc : ByteArray} {nL : Nat} {ret : Option FieldType} {rm : Room} {P : Option Value → (Heap → Prop) → Prop} {Pic : Heap → Prop} {n k pc : Nat} {lv : List (Nat × Value)} {st rest : List Value} {θ : zTh} {l : Launch} {y x2 y2 : MethodName} {cc' : ByteArray} {nL' idx : Nat} {ret' : Option FieldType} {rm' : Room} {As : List Value} {P' : Option Value → (Heap → Prop) → Prop} {Cn C2 : String} (C : ZC κ own nm cc nL ret rm P) (hκ : κ.1 = θ) (hκl : κ.2.2.1 = l) {ci b N9 : Nat} {T : u_T} (hT : zTb θ) (q : Nat) (hM : ZM θ l y cc' nL' ret' rm' (.ref b :: As) Pic P') (d : decode cc pc = .ok (.invokevirtual idx, 3)) (h1 : Cond.methodLink own idx y ∈ lw_all) (h2 : Cond.instanceMethod y ∈ lw_all) (h7 : Cond.privateMethod y ∈ lw_tbl) (h3 : Cond.selects C2 x2 y2 ∈ lw_all) (hy2 : y2.cls = y.cls) (h5 : Cond.initialized y.cls ∈ lw_all) (h6 : Cond.code y cc' nL' ret' ∈ lw_all) (hd : zNd y y.cls As.length)
    (hf : rm'.frames + 1 ≤ rm.frames) (hlo : 8 + (nL' + 11) + rm'.locals ≤ rm.locals) (hce : n + rm'.cells ≤ rm.cells) (hsl : k + rm'.slots ≤ rm.slots) (hr : zrec θ ci b Pic) (hc : zCl[ci]? = some (Cn, T, N9)) (hst : st = As.reverse ++ .ref b :: rest) (hsz : (rest.map fun v => v.category).sum ≤ 8) (hq : pc + 3 = q)
    (kk : ∀ (v : Option Value) (Pic1 : Heap → Prop), P' v Pic1 → Z κ Pic1 (n + rm'.cells) (k + rm'.slots) q lv (v.toList ++ rest)) : Z κ Pic n k pc lv st := by
  subst hq; subst hst; subst hκ; subst hκl
  obtain ⟨θ, p, l, e, R, s, m, args, below, meth, c, Q⟩ := κ
  obtain ⟨hx, hb, hml, hown, hts, hU, hlk, hret, hnm, rfl, hQ⟩ := C
  intro H locs ls hP hS hl
  refine z_run (x_runP (As := As) (rest := rest) ⟨hx, hb, hml, hown, hts⟩ hM (callB_of As.length hts (lw_meth h6) rfl rfl rfl (hts _ h5) (hts _ h1) hd ⟨hf, hlo⟩) (hts _ h2) (hT.priv hU h7) (hts _ h3) hy2 ⟨zPc_blind, zrec_cell hr hc hU hP, fun U hU' hW => ⟨rfl, by rw [hU']; exact hP, hU.on hS hU' hW⟩⟩ rfl rfl (by rw [← hml]; exact hl.1) rfl (lv_room hsz) d ⟨hce, hsl⟩) hS hl kk

section XArr
variable {κ : zK} {own nm : String} {cc : ByteArray} {nL : Nat} {ret : Option FieldType} {rm : Room} {P : Option Value → (Heap → Prop) → Prop} {n k pc : Nat} {lv : List (Nat × Value)} {st rest : List Value}
variable {θ : zTh} {σ : xA} {w : mW} {Lf : Int → List Int} {M N : zMap} {index : Nat} {ref : String}
theorem z_astore_nq {Pic : Heap → Prop} (C : ZC κ own nm cc nL ret rm P) {i : Fin 4} {r : Option Nat} {lv' : List (Nat × Value)} (q : Nat) (ks : List Nat) (d : decode cc pc = .ok (.astore_n i, 1)) (hn : (i : Nat) < nL) (hk : lv_pick (zst1 lv (i : Nat) (va_rf r)) ks = lv') (hq : pc + 1 = q) (kk : Z κ Pic n k q lv' rest) : Z κ Pic n k pc lv (va_rf r :: rest) := by
  cases r with
  | none => exact z_astore_nN C q ks d hn hk hq kk
  | some a => exact z_astore_n C q ks d hn hk hq kk
theorem z_astoreq {Pic : Heap → Prop} (C : ZC κ own nm cc nL ret rm P) {i : Nat} {r : Option Nat} {lv' : List (Nat × Value)} (q : Nat) (ks : List Nat) (d : decode cc pc = .ok (.astore i, 2)) (hn : i < nL) (hk : lv_pick (zst1 lv i (va_rf r)) ks = lv') (hq : pc + 2 = q) (kk : Z κ Pic n k q lv' rest) : Z κ Pic n k pc lv (va_rf r :: rest) := by
  cases r with
  | none => exact z_astoreN C q ks d hn hk hq kk
  | some a => exact z_astore C q ks d hn hk hq kk
theorem xS.S (h : xS w) : mS w := h.2.1
theorem xS.BT (h : xS w) : mBT w := h.2.2.1
theorem xS.sort (h : xS w) {t : Int} (h8 : 8 ≤ t) (h1 : t < w 0 0) : 1 ≤ w 1 t := h.2.2.2.1 t h8 h1
theorem xS.r8 (h : xS w) : w 1 8 = 1 ∧ w 2 8 = -1 := h.2.2.2.2.1
theorem xS.ty (h : xS w) {t : Int} (h0 : 0 ≤ t) (h1 : t < w 0 0) : (w 1 t = 0 ∨ w 1 t = 3 → w 2 t = -1) ∧ (w 1 t = 4 → w 2 t = 8 ∧ w 6 t = 0) ∧ (w 1 t ≠ 4 → w 4 t = -1) ∧ (t < 8 → w 6 t = 0) := h.2.2.2.2.2.1 t h0 h1
theorem xS.up (h : xS w) {t : Int} (h0 : 0 ≤ t) (h1 : t < w 0 0) : (clT w t = true → t ≠ 8 → clT w (w 2 t) = true) ∧ ∀ j : Int, 0 ≤ j → j < w 6 t → w 1 (w 7 (3 * t + j)) = 3 := h.2.2.2.2.2.2 t h0 h1
theorem x_aT (C : ZC κ own nm cc nL ret rm P) (hκ : κ.1 = θ) {i : Int} (q : Nat) (hX : xM θ σ w Lf M) (hs : xS w) (h0 : 0 ≤ i) (h1 : i < w 0 0) (d : decode cc pc = .ok (.aaload, 1)) (hq : pc + 1 = q) (kk : Z κ (zP θ M N) n k q lv (.ref (σ 10 i) :: rest)) : Z κ (zP θ M N) n k pc lv (.int (iI i) :: .ref (σ 1 0) :: rest) := by
  obtain ⟨e, g1, f, rfl, g3⟩ := hX.g (k := 1) (by decide)
  have hB := hs.S.B.2.1
  refine z_qald C hκ (v := .ref (σ 10 i)) q 8 g1 rfl h0 (by omega) (by decide) ?_ d hq kk
  have e : ((i.toNat : Nat) : Int) = i := by omega
  rw [g3 i.toNat (by omega), e]; rfl
theorem x_aM (C : ZC κ own nm cc nL ret rm P) (hκ : κ.1 = θ) {i : Int} (q : Nat) (hX : xM θ σ w Lf M) (hs : xS w) (h0 : 0 ≤ i) (h1 : i < w 11 0) (d : decode cc pc = .ok (.aaload, 1)) (hq : pc + 1 = q) (kk : Z κ (zP θ M N) n k q lv (.ref (σ 20 i) :: rest)) : Z κ (zP θ M N) n k pc lv (.int (iI i) :: .ref (σ 2 0) :: rest) := by
  obtain ⟨e, g1, f, rfl, g3⟩ := hX.g (k := 2) (by decide)
  have hB := hs.S.B.2.2.2.1
  refine z_qald C hκ (v := .ref (σ 20 i)) q 9 g1 rfl h0 (by omega) (by decide) ?_ d hq kk
  have e : ((i.toNat : Nat) : Int) = i := by omega
  rw [g3 i.toNat (by omega), e]; rfl
theorem x_aX (C : ZC κ own nm cc nL ret rm P) (hκ : κ.1 = θ) {i : Int} (q : Nat) (hX : xM θ σ w Lf M) (hs : xS w) (h0 : 0 ≤ i) (h1 : i < w 27 0) (d : decode cc pc = .ok (.aaload, 1)) (hq : pc + 1 = q) (kk : Z κ (zP θ M N) n k q lv (.ref (σ 30 i) :: rest)) : Z κ (zP θ M N) n k pc lv (.int (iI i) :: .ref (σ 3 0) :: rest) := by
  obtain ⟨e, g1, f, rfl, g3⟩ := hX.g (k := 3) (by decide)
  have hB := hs.S.B.2.2.2.2.2
  refine z_qald C hκ (v := .ref (σ 30 i)) q 10 g1 rfl h0 (by omega) (by decide) ?_ d hq kk
  have e : ((i.toNat : Nat) : Int) = i := by omega
  rw [g3 i.toNat (by omega), e]; rfl
theorem x_aS (C : ZC κ own nm cc nL ret rm P) (hκ : κ.1 = θ) {i : Int} (q : Nat) (hX : xM θ σ w Lf M) (h0 : 0 ≤ i) (h1 : i < 8) (d : decode cc pc = .ok (.aaload, 1)) (hq : pc + 1 = q) (kk : Z κ (zP θ M N) n k q lv (.ref (σ 40 i) :: rest)) : Z κ (zP θ M N) n k pc lv (.int (iI i) :: .ref (σ 4 0) :: rest) := by
  obtain ⟨e, g1, f, rfl, g3⟩ := hX.g (k := 4) (by decide)
  refine z_qald C hκ (v := .ref (σ 40 i)) q 11 g1 rfl h0 (by omega) (by decide) ?_ d hq kk
  have e : ((i.toNat : Nat) : Int) = i := by omega
  rw [g3 i.toNat (by omega), e]; rfl
theorem x_afc (C : ZC κ own nm cc nL ret rm P) (hκ : κ.1 = θ) {t i : Int} (q : Nat) (hX : xM θ σ w Lf M) (hs : xS w) (t0 : 0 ≤ t) (t1 : t < w 0 0) (h0 : 0 ≤ i) (h1 : i < w 6 t) (d : decode cc pc = .ok (.aaload, 1)) (hq : pc + 1 = q) (kk : Z κ (zP θ M N) n k q lv (.ref (σ 10 (w 7 (3 * t + i))) :: rest)) : Z κ (zP θ M N) n k pc lv (.int (iI i) :: .ref (σ 11 t) :: rest) := by
  obtain ⟨f, g1, g3⟩ := hX.fc t0 t1
  have hB := (hs.S.T t0 t1).2.1.2
  refine z_qald C hκ (v := .ref (σ 10 (w 7 (3 * t + i)))) q 8 g1 rfl h0 (by omega) (by decide) ?_ d hq kk
  have e : ((i.toNat : Nat) : Int) = i := by omega
  rw [g3 i.toNat (by omega), e]; rfl
theorem x_aab (C : ZC κ own nm cc nL ret rm P) (hκ : κ.1 = θ) {t i a : Int} (q : Nat) (hX : xM θ σ w Lf M) (t0 : 0 ≤ t) (t1 : t < w 0 0) (h0 : 0 ≤ i) (h1 : i < 60) (ha : (Lf t)[i.toNat]? = some a) (d : decode cc pc = .ok (.aaload, 1)) (hq : pc + 1 = q) (kk : Z κ (zP θ M N) n k q lv (.ref (σ 10 a) :: rest)) : Z κ (zP θ M N) n k pc lv (.int (iI i) :: .ref (σ 12 t) :: rest) := by
  obtain ⟨f, g1, g3⟩ := hX.ab t0 t1
  refine z_qald C hκ (v := .ref (σ 10 a)) q 8 g1 rfl h0 (by omega) (by decide) ?_ d hq kk
  rw [g3 i.toNat a ha]; rfl
theorem x_apm (C : ZC κ own nm cc nL ret rm P) (hκ : κ.1 = θ) {m i : Int} (q : Nat) (hX : xM θ σ w Lf M) (hs : xS w) (t0 : 0 ≤ m) (t1 : m < w 11 0) (h0 : 0 ≤ i) (h1 : i < w 18 m) (d : decode cc pc = .ok (.aaload, 1)) (hq : pc + 1 = q) (kk : Z κ (zP θ M N) n k q lv (.ref (σ 10 (w 19 (3 * m + i))) :: rest)) : Z κ (zP θ M N) n k pc lv (.int (iI i) :: .ref (σ 21 m) :: rest) := by
  obtain ⟨f, g1, g3⟩ := hX.pm t0 t1
  have hB := (hs.S.M t0 t1).2.1.2
  refine z_qald C hκ (v := .ref (σ 10 (w 19 (3 * m + i)))) q 8 g1 rfl h0 (by omega) (by decide) ?_ d hq kk
  have e : ((i.toNat : Nat) : Int) = i := by omega
  rw [g3 i.toNat (by omega), e]; rfl
theorem x_ahs (C : ZC κ own nm cc nL ret rm P) (hκ : κ.1 = θ) {t i : Int} (q : Nat) (hX : xM θ σ w Lf M) (t0 : 0 ≤ t) (t1 : t < w 0 0) (h0 : 0 ≤ i) (h1 : i < 60) (d : decode cc pc = .ok (.baload, 1)) (hq : pc + 1 = q) (kk : Z κ (zP θ M N) n k q lv (.int (iI (bI (decide (i ∈ Lf t)))) :: rest)) : Z κ (zP θ M N) n k pc lv (.int (iI i) :: .ref (σ 13 t) :: rest) := by
  obtain ⟨f, g1, g3⟩ := hX.hs t0 t1
  refine z_zald C hκ q g1 h0 (by omega) (by decide) ?_ d hq kk
  have e : ((i.toNat : Nat) : Int) = i := by omega
  rw [g3 i.toNat (by omega), e]
theorem xo_T (hX : xM θ σ w Lf M) {a b : Int} (a0 : -1 ≤ a) (a1 : a < w 0 0) (b0 : -1 ≤ b) (b1 : b < w 0 0) : xo σ 10 a = xo σ 10 b ↔ a = b := by
  unfold xo
  split <;> split
  · exact ⟨fun _ => (by omega), fun _ => rfl⟩
  · exact ⟨fun h => (by cases h), fun h => (by omega)⟩
  · exact ⟨fun h => (by cases h), fun h => (by omega)⟩
  · exact ⟨fun h => (hX.inT (by omega) a1 (by omega) b1).mp (Option.some.inj h), fun h => by rw [h]⟩
theorem xo_M (hX : xM θ σ w Lf M) {a b : Int} (a0 : -1 ≤ a) (a1 : a < w 11 0) (b0 : -1 ≤ b) (b1 : b < w 11 0) : xo σ 20 a = xo σ 20 b ↔ a = b := by
  unfold xo
  split <;> split
  · exact ⟨fun _ => (by omega), fun _ => rfl⟩
  · exact ⟨fun h => (by cases h), fun h => (by omega)⟩
  · exact ⟨fun h => (by cases h), fun h => (by omega)⟩
  · exact ⟨fun h => (hX.inM (by omega) a1 (by omega) b1).mp (Option.some.inj h), fun h => by rw [h]⟩
theorem xo_X (hX : xM θ σ w Lf M) {a b : Int} (a0 : -1 ≤ a) (a1 : a < w 27 0) (b0 : -1 ≤ b) (b1 : b < w 27 0) : xo σ 30 a = xo σ 30 b ↔ a = b := by
  have hi : ∀ a b : Int, 0 ≤ a → a < w 27 0 → 0 ≤ b → b < w 27 0 → σ 30 a = σ 30 b → a = b := fun a b a0 a1 b0 b1 e => (hX.1 30 a 30 b (Or.inr (Or.inr (Or.inr (Or.inr (Or.inr (Or.inl ⟨rfl, a0, a1⟩)))))) (Or.inr (Or.inr (Or.inr (Or.inr (Or.inr (Or.inl ⟨rfl, b0, b1⟩)))))) e).2
  unfold xo
  split <;> split
  · exact ⟨fun _ => (by omega), fun _ => rfl⟩
  · exact ⟨fun h => (by cases h), fun h => (by omega)⟩
  · exact ⟨fun h => (by cases h), fun h => (by omega)⟩
  · exact ⟨fun h => hi _ _ (by omega) a1 (by omega) b1 (Option.some.inj h), fun h => by rw [h]⟩
theorem zNd_of {y : MethodName} {C9 : String} {n9 : Nat} (h : zNm y C9 n9) : zNd y y.cls n9 := ⟨h.2.1, h.2.2.1, h.2.2.2⟩
theorem xM.ty3 (h : xM θ σ w Lf M) {t : Int} (h0 : 0 ≤ t) (h1 : t < w 0 0) (hc : xci w t = 3) : M (σ 10 t) = some (.inr (3, xT8 σ w t (Lf t).length)) := by
  rw [h.ty h0 h1, hc]; unfold xTyG; rw [hc]; rfl
theorem xM.ty4 (h : xM θ σ w Lf M) {t : Int} (h0 : 0 ≤ t) (h1 : t < w 0 0) (hc : xci w t = 4) : M (σ 10 t) = some (.inr (4, xT8 σ w t (Lf t).length)) := by
  rw [h.ty h0 h1, hc]; unfold xTyG; rw [hc]; rfl
theorem xM.ty5 (h : xM θ σ w Lf M) {t : Int} (h0 : 0 ≤ t) (h1 : t < w 0 0) (hc : xci w t = 5) : M (σ 10 t) = some (.inr (5, xT8 σ w t (Lf t).length ++ [va_rf (xo σ 10 (w 2 t)), .int (iI (bI (decide (w 1 t = 2))))])) := by
  rw [h.ty h0 h1, hc]; unfold xTyG; rw [hc]; rfl
theorem xM.ty8 (h : xM θ σ w Lf M) {t : Int} (h0 : 0 ≤ t) (h1 : t < w 0 0) (hc : xci w t = 8) : M (σ 10 t) = some (.inr (8, xT8 σ w t (Lf t).length ++ [va_rf (xo σ 10 (w 4 t)), .ref (σ 10 8)])) := by
  rw [h.ty h0 h1, hc]; unfold xTyG; rw [hc]; rfl
/-- a field of things -/
theorem x_pget (C : ZC κ own nm cc nL ret rm P) (hκ : κ.1 = θ) {x : Int} {v : Value} (q kf : Nat) (hX : xM θ σ w Lf M) (h0 : 0 ≤ x) (h1 : x < w 27 0) (hk : kf < 3) (e4 : TX27 kf = TX24 kf) (hlink : Cond.fieldLink own index ref (TX24 kf).2.1 (TX24 kf).2.2.1 ∈ lw_all) (hsame : ref = (TX24 kf).1 ∨ Cond.sameField ref (TX24 kf).1 (TX24 kf).2.1 (TX24 kf).2.2.1 ∈ lw_all) (hv : ([.int (iI x), .ref (σ 10 (w 28 x)), .int (iI (-1))] : List Value)[kf]? = some v) (d : decode cc pc = .ok (.getfield index, 3)) (hq : pc + 3 = q) (kk : Z κ (zP θ M N) n k q lv (v :: rest)) : Z κ (zP θ M N) n k pc lv (.ref (σ 30 x) :: rest) := by
  obtain ⟨e, g1, g2⟩ := hX.2 30 x (Or.inr (Or.inr (Or.inr (Or.inr (Or.inr (Or.inl ⟨rfl, h0, h1⟩))))))
  by_cases h : w 29 x = -1
  · have g2 : e = _ := g2
    rw [if_pos h] at g2
    rw [g2] at g1
    refine z_getf C hκ q kf zk_X24 g1 (by omega) hlink hsame ?_ d hq kk
    match kf, hk, hv with
    | 0, _, hv => exact hv
    | 1, _, hv => exact hv
    | 2, _, hv => exact hv
  · have g2 : e = _ := g2
    rw [if_neg h] at g2
    rw [g2] at g1
    refine z_getf C hκ q kf zk_X27 g1 (by omega) (by rw [e4]; exact hlink) (by rw [e4]; exact hsame) ?_ d hq kk
    match kf, hk, hv with
    | 0, _, hv => exact hv
    | 1, _, hv => exact hv
    | 2, _, hv => exact hv
theorem xM.one (h : xM θ σ w Lf M) {x : Int} (h0 : 0 ≤ x) (h1 : x < w 27 0) (h2 : w 29 x = -1) : M (σ 30 x) = some (.inr (24, [.int (iI x), .ref (σ 10 (w 28 x)), .int (iI (-1)), .ref (σ 31 x)])) := by
  obtain ⟨e, g1, g2⟩ := h.2 30 x (Or.inr (Or.inr (Or.inr (Or.inr (Or.inr (Or.inl ⟨rfl, h0, h1⟩))))))
  have g2 : e = _ := g2
  rw [if_pos h2] at g2
  rw [g1, g2]
theorem xM.many (h : xM θ σ w Lf M) {x : Int} (h0 : 0 ≤ x) (h1 : x < w 27 0) (h2 : w 29 x ≠ -1) : M (σ 30 x) = some (.inr (27, [.int (iI x), .ref (σ 10 (w 28 x)), .int (iI (-1)), .ref (σ 32 x), .int (iI (w 29 x))])) := by
  obtain ⟨e, g1, g2⟩ := h.2 30 x (Or.inr (Or.inr (Or.inr (Or.inr (Or.inr (Or.inl ⟨rfl, h0, h1⟩))))))
  have g2 : e = _ := g2
  rw [if_neg h2] at g2
  rw [g1, g2]
theorem xM.slot (h : xM θ σ w Lf M) {s : Int} (h0 : 0 ≤ s) (h1 : s < 8) : M (σ 40 s) = some (.inr (6, [.int (iI (w 32 s)), .long (lI (if w 32 s = 8 then 0 else w 33 s)), va_rf (if w 32 s = 8 then xo σ 30 (w 33 s) else none)])) := by
  obtain ⟨e, g1, g2⟩ := h.2 40 s (Or.inr (Or.inr (Or.inr (Or.inr (Or.inr (Or.inr (Or.inr (Or.inr (Or.inr ⟨rfl, h0, h1⟩)))))))))
  rw [g1, show e = _ from g2]
theorem x_instN {Pic : Heap → Prop} (C : ZC κ own nm cc nL ret rm P) (q : Nat) (d : decode cc pc = .ok (.instanceof index, 3)) (hq : pc + 3 = q) (kk : Z κ Pic n k q lv (.int (iI (bI false)) :: rest)) : Z κ Pic n k pc lv (.null :: rest) := by
  obtain ⟨θ', p, l, e, R, s, m, args, below, meth, c, Q⟩ := κ
  obtain ⟨hx, hb, hml, hown, hts, hU, hlk, hret, hnm, hR, hQ⟩ := C
  subst hq
  intro H locs ls hP hS hl T hT X
  obtain ⟨t, a, b⟩ := kk H locs ls hP hS hl T hT X
  exact ⟨t, X.instanceofNull hx (g := F0 m pc ls (.null :: rest)) rfl rfl (by rw [hb]; exact d) _ a, b⟩
theorem x_castN {Pic : Heap → Prop} (C : ZC κ own nm cc nL ret rm P) (q : Nat) (d : decode cc pc = .ok (.checkcast index, 3)) (hq : pc + 3 = q) (kk : Z κ Pic n k q lv (.null :: rest)) : Z κ Pic n k pc lv (.null :: rest) := by
  obtain ⟨θ', p, l, e, R, s, m, args, below, meth, c, Q⟩ := κ
  obtain ⟨hx, hb, hml, hown, hts, hU, hlk, hret, hnm, hR, hQ⟩ := C
  subst hq
  intro H locs ls hP hS hl T hT X
  obtain ⟨t, a, b⟩ := kk H locs ls hP hS hl T hT X
  exact ⟨t, X.checkcastNull hx (g := F0 m pc ls (.null :: rest)) rfl rfl (by rw [hb]; exact d) _ a, b⟩
/-- whether a thing is a One -/
theorem x_isOne (C : ZC κ own nm cc nL ret rm P) (hκ : κ.1 = θ) (hT : zTb θ) {x : Int} (q : Nat) (hX : xM θ σ w Lf M) (h0 : 0 ≤ x) (h1 : x < w 27 0) (hcl : Cond.classLink own index "ReflectMirror$One" ∈ lw_all) (d : decode cc pc = .ok (.instanceof index, 3)) (hq : pc + 3 = q) (kk : Z κ (zP θ M N) n k q lv (.int (iI (bI (decide (w 29 x = -1)))) :: rest)) : Z κ (zP θ M N) n k pc lv (.ref (σ 30 x) :: rest) := by
  by_cases h : w 29 x = -1
  · rw [decide_eq_true h] at kk; exact z_instS C hκ q (hX.one h0 h1 h) rfl hcl d hq kk
  · rw [decide_eq_false h] at kk; exact z_instNo C hκ hT q (hX.many h0 h1 h) rfl hcl (by decide) d hq kk
theorem x_isMany (C : ZC κ own nm cc nL ret rm P) (hκ : κ.1 = θ) (hT : zTb θ) {x : Int} (q : Nat) (hX : xM θ σ w Lf M) (h0 : 0 ≤ x) (h1 : x < w 27 0) (hcl : Cond.classLink own index "ReflectMirror$Many" ∈ lw_all) (d : decode cc pc = .ok (.instanceof index, 3)) (hq : pc + 3 = q) (kk : Z κ (zP θ M N) n k q lv (.int (iI (bI (decide (w 29 x ≠ -1)))) :: rest)) : Z κ (zP θ M N) n k pc lv (.ref (σ 30 x) :: rest) := by
  by_cases h : w 29 x = -1
  · rw [decide_eq_false (fun g => g h)] at kk; exact z_instNo C hκ hT q (hX.one h0 h1 h) rfl hcl (by decide) d hq kk
  · rw [decide_eq_true h] at kk; exact z_instS C hκ q (hX.many h0 h1 h) rfl hcl d hq kk
theorem x_isOneq (C : ZC κ own nm cc nL ret rm P) (hκ : κ.1 = θ) (hT : zTb θ) {x : Int} (q : Nat) (hX : xM θ σ w Lf M) (h1 : x < w 27 0) (hcl : Cond.classLink own index "ReflectMirror$One" ∈ lw_all) (d : decode cc pc = .ok (.instanceof index, 3)) (hq : pc + 3 = q) (kk : Z κ (zP θ M N) n k q lv (.int (iI (bI (decide (0 ≤ x ∧ w 29 x = -1)))) :: rest)) : Z κ (zP θ M N) n k pc lv (va_rf (xo σ 30 x) :: rest) := by
  by_cases h : x < 0
  · rw [decide_eq_false (by omega)] at kk; rw [xo_n h]; exact x_instN C q d hq kk
  · have e : decide (0 ≤ x ∧ w 29 x = -1) = decide (w 29 x = -1) := by congr 1; apply propext; omega
    rw [e] at kk; rw [xo_y (by omega)]; exact x_isOne C hκ hT q hX (by omega) h1 hcl d hq kk
theorem x_isManyq (C : ZC κ own nm cc nL ret rm P) (hκ : κ.1 = θ) (hT : zTb θ) {x : Int} (q : Nat) (hX : xM θ σ w Lf M) (h1 : x < w 27 0) (hcl : Cond.classLink own index "ReflectMirror$Many" ∈ lw_all) (d : decode cc pc = .ok (.instanceof index, 3)) (hq : pc + 3 = q) (kk : Z κ (zP θ M N) n k q lv (.int (iI (bI (decide (0 ≤ x ∧ w 29 x ≠ -1)))) :: rest)) : Z κ (zP θ M N) n k pc lv (va_rf (xo σ 30 x) :: rest) := by
  by_cases h : x < 0
  · rw [decide_eq_false (by omega)] at kk; rw [xo_n h]; exact x_instN C q d hq kk
  · have e : decide (0 ≤ x ∧ w 29 x ≠ -1) = decide (w 29 x ≠ -1) := by congr 1; apply propext; omega
    rw [e] at kk; rw [xo_y (by omega)]; exact x_isMany C hκ hT q hX (by omega) h1 hcl d hq kk
/-- a member's objects, wherever its number stands -/
def xMa (θ : zTh) (σ : xA) (w : mW) (M : zMap) (m : Int) : Prop := M (σ 20 m) = some (.inr (9, xMem σ w m)) ∧ (∃ f, M (σ 21 m) = some (.inl (θ.2.1 8, 3, xQ f)) ∧ ∀ j : Nat, (j : Int) < w 18 m → f j = some (σ 10 (w 19 (3 * m + j)))) ∧ mM w m
theorem xM.ma (hX : xM θ σ w Lf M) (hs : xS w) {m : Int} (h0 : 0 ≤ m) (h1 : m < w 11 0) : xMa θ σ w M m := ⟨hX.mem h0 h1, hX.pm h0 h1, hs.S.M h0 h1⟩
theorem x_apmA (C : ZC κ own nm cc nL ret rm P) (hκ : κ.1 = θ) {m i : Int} (q : Nat) (hA : xMa θ σ w M m) (h0 : 0 ≤ i) (h1 : i < w 18 m) (d : decode cc pc = .ok (.aaload, 1)) (hq : pc + 1 = q) (kk : Z κ (zP θ M N) n k q lv (.ref (σ 10 (w 19 (3 * m + i))) :: rest)) : Z κ (zP θ M N) n k pc lv (.int (iI i) :: .ref (σ 21 m) :: rest) := by
  obtain ⟨f, g1, g3⟩ := hA.2.1
  have hB := hA.2.2.2.1.2
  refine z_qald C hκ (v := .ref (σ 10 (w 19 (3 * m + i)))) q 8 g1 rfl h0 (by omega) (by decide) ?_ d hq kk
  have e : ((i.toNat : Nat) : Int) = i := by omega
  rw [g3 i.toNat (by omega), e]; rfl
end XArr

set_option maxRecDepth 100000 in
theorem k0_isIn {l : Launch} {θ : zTh} {Pic : Heap → Prop} (hT : zTb θ) (v : Int) (lo : Int) (hi : Int) (r_v : inL v) (r_lo : inL lo) (r_hi : inL hi)  : ZM θ l yX0_isIn cX0_isIn 6 (some .boolean) ⟨0, 0, 0, 0⟩ [.long (lI (v)), .long (lI (lo)), .long (lI (hi))] (Pic) (zFn (some (.int (iI (bI (decide (lo ≤ v ∧ v ≤ hi)))))) (Pic)) := by
  refine z_start (own := RX0) (nm := "isIn") pnX0 rfl rfl (Nat.le_of_ble_eq_true rfl) ?_
  intro κ hκ hκl C
  change Z κ (Pic) 0 0 0 [(0, .long (lI (v))), (2, .long (lI (lo))), (4, .long (lI (hi)))] []
  refine z_lload_n C 1 0 dX0_isIn_0 rfl rfl ?_
  refine z_lload_n C 2 1 dX0_isIn_1 rfl rfl ?_
  refine z_lcmp C 3 dX0_isIn_2 r_v r_lo rfl ?_
  refine z_ifC_lt C 17 6 dX0_isIn_3 (by decide) rfl (fun c1 => ?_) (fun c1 => ?_)
  · skip
    refine z_iconst C 18 dX0_isIn_17 rfl ?_
    refine z_as (st' := [.int (iI (bI (false)))]) rfl rfl rfl ?_
    exact z_iret C dX0_isIn_18 (bI_nar _) (Nat.le_of_ble_eq_true rfl) (Nat.le_of_ble_eq_true rfl) ⟨congrArg (fun b => some (Value.int (iI (bI b)))) (by rw [eq_comm]; simp; omega), rfl⟩
  · skip
    refine z_lload_n C 7 0 dX0_isIn_6 rfl rfl ?_
    refine z_lload C 9 2 dX0_isIn_7 rfl rfl ?_
    refine z_lcmp C 10 dX0_isIn_9 r_v r_hi rfl ?_
    refine z_ifC_gt C 17 13 dX0_isIn_10 (by decide) rfl (fun c2 => ?_) (fun c2 => ?_)
    · skip
      refine z_iconst C 18 dX0_isIn_17 rfl ?_
      refine z_as (st' := [.int (iI (bI (false)))]) rfl rfl rfl ?_
      exact z_iret C dX0_isIn_18 (bI_nar _) (Nat.le_of_ble_eq_true rfl) (Nat.le_of_ble_eq_true rfl) ⟨congrArg (fun b => some (Value.int (iI (bI b)))) (by rw [eq_comm]; simp; omega), rfl⟩
    · skip
      refine z_iconst C 14 dX0_isIn_13 rfl ?_
      refine z_goto C 18 dX0_isIn_14 (by decide) ?_
      refine z_as (st' := [.int (iI (bI (true)))]) rfl rfl rfl ?_
      exact z_iret C dX0_isIn_18 (bI_nar _) (Nat.le_of_ble_eq_true rfl) (Nat.le_of_ble_eq_true rfl) ⟨congrArg (fun b => some (Value.int (iI (bI b)))) (by rw [eq_comm]; simp; omega), rfl⟩
set_option maxRecDepth 100000 in
theorem k0_isType {l : Launch} {θ : zTh} {σ : xA} {w : mW} {Lf : Int → List Int} {M N : zMap} (hX : xM θ σ w (Lf) M) (hs : xS w) (hw : mWF w) (hT : zTb θ) (t : Int) (r_t : inR t)  : ZM θ l yX0_isType cX0_isType 2 (some .boolean) ⟨1, 0, 0, 25⟩ [.ref (σ 0 (0)), .int (iI (t))] (zP θ M N) (zFn (some (.int (iI (bI (tyB w t))))) (zP θ M N)) := by
  refine z_start (own := RX0) (nm := "isType") pnX0 rfl rfl (Nat.le_of_ble_eq_true rfl) ?_
  intro κ hκ hκl C
  change Z κ (zP θ M N) 0 0 0 [(0, .ref (σ 0 (0))), (1, .int (iI (t)))] []
  have hS := hs.S
  have hB := hS.B
  obtain ⟨hB1, hB2, hB3, hB4, hB5, hB6⟩ := hS.B
  have hC := hS.C
  obtain ⟨h81, h82⟩ := hs.r8
  refine z_iload_n C 1 1 dX0_isType_0 rfl rfl ?_
  refine z_i2l C 2 dX0_isType_1 r_t rfl ?_
  refine z_lconst (x := 0) C 3 dX0_isType_2 rfl rfl ?_
  refine z_aload_n C 4 0 dX0_isType_3 rfl rfl ?_
  refine z_getf C hκ (v := .int (iI (w 0 0))) 7 1 zk_X0 hX.o (by decide) q328 (Or.inl rfl) rfl dX0_isType_4 rfl ?_
  refine z_iconst C 8 dX0_isType_7 rfl ?_
  refine z_isub C 9 dX0_isType_8 rfl ?_
  refine z_i2l C 10 dX0_isType_9 ⟨by omega, by omega⟩ rfl ?_
  refine z_callS (As := [.long (lI (t)), .long (lI (0)), .long (lI ((w 0 0) - (1)))]) (rest := []) C hκ hκl 13 (k0_isIn hT (t) (0) ((w 0 0) - (1)) (inR_L r_t) ⟨by decide, by decide⟩ ⟨by omega, by omega⟩) dX0_isType_10 q378 q379 q90 q380 znX0_isIn (Nat.le_of_ble_eq_true rfl) (Nat.le_of_ble_eq_true rfl) (Nat.le_of_ble_eq_true rfl) (Nat.le_of_ble_eq_true rfl) rfl (Nat.le_of_ble_eq_true rfl) rfl (fun v9 Q9 h9 => ?_)
  obtain ⟨rfl, rfl⟩ := h9
  refine z_as (st' := [.int (iI (bI (decide ((0) ≤ (t) ∧ (t) ≤ ((w 0 0) - (1))))))]) rfl rfl rfl ?_
  exact z_iret C dX0_isType_13 (bI_nar _) (Nat.le_of_ble_eq_true rfl) (Nat.le_of_ble_eq_true rfl) ⟨congrArg (fun b => some (Value.int (iI (bI b)))) (by unfold tyB; congr 1; apply propext; constructor <;> intro h <;> omega), rfl⟩
set_option maxRecDepth 100000 in
theorem k0_isMember {l : Launch} {θ : zTh} {σ : xA} {w : mW} {Lf : Int → List Int} {M N : zMap} (hX : xM θ σ w (Lf) M) (hs : xS w) (hw : mWF w) (hT : zTb θ) (m : Int) (r_m : inR m)  : ZM θ l yX0_isMember cX0_isMember 2 (some .boolean) ⟨1, 0, 0, 25⟩ [.ref (σ 0 (0)), .int (iI (m))] (zP θ M N) (zFn (some (.int (iI (bI (mbB w m))))) (zP θ M N)) := by
  refine z_start (own := RX0) (nm := "isMember") pnX0 rfl rfl (Nat.le_of_ble_eq_true rfl) ?_
  intro κ hκ hκl C
  change Z κ (zP θ M N) 0 0 0 [(0, .ref (σ 0 (0))), (1, .int (iI (m)))] []
  have hS := hs.S
  have hB := hS.B
  obtain ⟨hB1, hB2, hB3, hB4, hB5, hB6⟩ := hS.B
  have hC := hS.C
  obtain ⟨h81, h82⟩ := hs.r8
  refine z_iload_n C 1 1 dX0_isMember_0 rfl rfl ?_
  refine z_i2l C 2 dX0_isMember_1 r_m rfl ?_
  refine z_lconst (x := 0) C 3 dX0_isMember_2 rfl rfl ?_
  refine z_aload_n C 4 0 dX0_isMember_3 rfl rfl ?_
  refine z_getf C hκ (v := .int (iI (w 11 0))) 7 3 zk_X0 hX.o (by decide) q330 (Or.inl rfl) rfl dX0_isMember_4 rfl ?_
  refine z_iconst C 8 dX0_isMember_7 rfl ?_
  refine z_isub C 9 dX0_isMember_8 rfl ?_
  refine z_i2l C 10 dX0_isMember_9 ⟨by omega, by omega⟩ rfl ?_
  refine z_callS (As := [.long (lI (m)), .long (lI (0)), .long (lI ((w 11 0) - (1)))]) (rest := []) C hκ hκl 13 (k0_isIn hT (m) (0) ((w 11 0) - (1)) (inR_L r_m) ⟨by decide, by decide⟩ ⟨by omega, by omega⟩) dX0_isMember_10 q378 q379 q90 q380 znX0_isIn (Nat.le_of_ble_eq_true rfl) (Nat.le_of_ble_eq_true rfl) (Nat.le_of_ble_eq_true rfl) (Nat.le_of_ble_eq_true rfl) rfl (Nat.le_of_ble_eq_true rfl) rfl (fun v9 Q9 h9 => ?_)
  obtain ⟨rfl, rfl⟩ := h9
  refine z_as (st' := [.int (iI (bI (decide ((0) ≤ (m) ∧ (m) ≤ ((w 11 0) - (1))))))]) rfl rfl rfl ?_
  exact z_iret C dX0_isMember_13 (bI_nar _) (Nat.le_of_ble_eq_true rfl) (Nat.le_of_ble_eq_true rfl) ⟨congrArg (fun b => some (Value.int (iI (bI b)))) (by unfold mbB; congr 1; apply propext; constructor <;> intro h <;> omega), rfl⟩
set_option maxRecDepth 100000 in
theorem k0_isThing {l : Launch} {θ : zTh} {σ : xA} {w : mW} {Lf : Int → List Int} {M N : zMap} (hX : xM θ σ w (Lf) M) (hs : xS w) (hw : mWF w) (hT : zTb θ) (x : Int) (r_x : inR x)  : ZM θ l yX0_isThing cX0_isThing 2 (some .boolean) ⟨1, 0, 0, 25⟩ [.ref (σ 0 (0)), .int (iI (x))] (zP θ M N) (zFn (some (.int (iI (bI (tnB w x))))) (zP θ M N)) := by
  refine z_start (own := RX0) (nm := "isThing") pnX0 rfl rfl (Nat.le_of_ble_eq_true rfl) ?_
  intro κ hκ hκl C
  change Z κ (zP θ M N) 0 0 0 [(0, .ref (σ 0 (0))), (1, .int (iI (x)))] []
  have hS := hs.S
  have hB := hS.B
  obtain ⟨hB1, hB2, hB3, hB4, hB5, hB6⟩ := hS.B
  have hC := hS.C
  obtain ⟨h81, h82⟩ := hs.r8
  refine z_iload_n C 1 1 dX0_isThing_0 rfl rfl ?_
  refine z_i2l C 2 dX0_isThing_1 r_x rfl ?_
  refine z_ldc2 (z := (-1)) C 5 dX0_isThing_2 q753 (by decide) rfl ?_
  refine z_aload_n C 6 0 dX0_isThing_5 rfl rfl ?_
  refine z_getf C hκ (v := .int (iI (w 27 0))) 9 6 zk_X0 hX.o (by decide) q333 (Or.inl rfl) rfl dX0_isThing_6 rfl ?_
  refine z_iconst C 10 dX0_isThing_9 rfl ?_
  refine z_isub C 11 dX0_isThing_10 rfl ?_
  refine z_i2l C 12 dX0_isThing_11 ⟨by omega, by omega⟩ rfl ?_
  refine z_callS (As := [.long (lI (x)), .long (lI (-1)), .long (lI ((w 27 0) - (1)))]) (rest := []) C hκ hκl 15 (k0_isIn hT (x) (-1) ((w 27 0) - (1)) (inR_L r_x) ⟨by decide, by decide⟩ ⟨by omega, by omega⟩) dX0_isThing_12 q378 q379 q90 q380 znX0_isIn (Nat.le_of_ble_eq_true rfl) (Nat.le_of_ble_eq_true rfl) (Nat.le_of_ble_eq_true rfl) (Nat.le_of_ble_eq_true rfl) rfl (Nat.le_of_ble_eq_true rfl) rfl (fun v9 Q9 h9 => ?_)
  obtain ⟨rfl, rfl⟩ := h9
  refine z_as (st' := [.int (iI (bI (decide ((-1) ≤ (x) ∧ (x) ≤ ((w 27 0) - (1))))))]) rfl rfl rfl ?_
  exact z_iret C dX0_isThing_15 (bI_nar _) (Nat.le_of_ble_eq_true rfl) (Nat.le_of_ble_eq_true rfl) ⟨congrArg (fun b => some (Value.int (iI (bI b)))) (by unfold tnB; congr 1; apply propext; constructor <;> intro h <;> omega), rfl⟩
set_option maxRecDepth 100000 in
theorem k0_isSlot {l : Launch} {θ : zTh} {Pic : Heap → Prop} (hT : zTb θ) (s : Int) (r_s : inR s)  : ZM θ l yX0_isSlot cX0_isSlot 1 (some .boolean) ⟨1, 0, 0, 25⟩ [.int (iI (s))] (Pic) (zFn (some (.int (iI (bI (slB s))))) (Pic)) := by
  refine z_start (own := RX0) (nm := "isSlot") pnX0 rfl rfl (Nat.le_of_ble_eq_true rfl) ?_
  intro κ hκ hκl C
  change Z κ (Pic) 0 0 0 [(0, .int (iI (s)))] []
  refine z_iload_n C 1 0 dX0_isSlot_0 rfl rfl ?_
  refine z_i2l C 2 dX0_isSlot_1 r_s rfl ?_
  refine z_lconst (x := 0) C 3 dX0_isSlot_2 rfl rfl ?_
  refine z_ldc2 (z := 7) C 6 dX0_isSlot_3 q1909 (by decide) rfl ?_
  refine z_callS (As := [.long (lI (s)), .long (lI (0)), .long (lI (7))]) (rest := []) C hκ hκl 9 (k0_isIn hT (s) (0) (7) (inR_L r_s) ⟨by decide, by decide⟩ ⟨by decide, by decide⟩) dX0_isSlot_6 q378 q379 q90 q380 znX0_isIn (Nat.le_of_ble_eq_true rfl) (Nat.le_of_ble_eq_true rfl) (Nat.le_of_ble_eq_true rfl) (Nat.le_of_ble_eq_true rfl) rfl (Nat.le_of_ble_eq_true rfl) rfl (fun v9 Q9 h9 => ?_)
  obtain ⟨rfl, rfl⟩ := h9
  refine z_as (st' := [.int (iI (bI (decide ((0) ≤ (s) ∧ (s) ≤ (7)))))]) rfl rfl rfl ?_
  exact z_iret C dX0_isSlot_9 (bI_nar _) (Nat.le_of_ble_eq_true rfl) (Nat.le_of_ble_eq_true rfl) ⟨congrArg (fun b => some (Value.int (iI (bI b)))) (by unfold slB; congr 1; apply propext; constructor <;> intro h <;> omega), rfl⟩
set_option maxRecDepth 100000 in
theorem k0_isMethod {l : Launch} {θ : zTh} {σ : xA} {w : mW} {Lf : Int → List Int} {M N : zMap} (hX : xM θ σ w (Lf) M) (hs : xS w) (hw : mWF w) (hT : zTb θ) (m : Int) (r_m : inR m)  : ZM θ l yX0_isMethod cX0_isMethod 2 (some .boolean) ⟨2, 0, 0, 46⟩ [.ref (σ 0 (0)), .int (iI (m))] (zP θ M N) (zFn (some (.int (iI (bI (mtB w m))))) (zP θ M N)) := by
  refine z_start (own := RX0) (nm := "isMethod") pnX0 rfl rfl (Nat.le_of_ble_eq_true rfl) ?_
  intro κ hκ hκl C
  change Z κ (zP θ M N) 0 0 0 [(0, .ref (σ 0 (0))), (1, .int (iI (m)))] []
  have hS := hs.S
  have hB := hS.B
  obtain ⟨hB1, hB2, hB3, hB4, hB5, hB6⟩ := hS.B
  have hC := hS.C
  obtain ⟨h81, h82⟩ := hs.r8
  refine z_aload_n C 1 0 dX0_isMethod_0 rfl rfl ?_
  refine z_iload_n C 2 1 dX0_isMethod_1 rfl rfl ?_
  refine z_callV (As := [.int (iI (m))]) (rest := []) C hκ hκl 5 (k0_isMember hX hs hw hT (m) r_m) dX0_isMethod_2 q795 q797 qs7 q90 q798 znX0_isMember (Nat.le_of_ble_eq_true rfl) (Nat.le_of_ble_eq_true rfl) (Nat.le_of_ble_eq_true rfl) (Nat.le_of_ble_eq_true rfl) (zrec_P hX.o) rfl rfl (Nat.le_of_ble_eq_true rfl) rfl (fun v9 Q9 h9 => ?_)
  obtain ⟨rfl, rfl⟩ := h9
  refine z_as (st' := [.int (iI (bI (mbB w (m))))]) rfl rfl rfl ?_
  refine z_ifB_eq C 24 8 dX0_isMethod_5 (by decide) rfl (fun c1 => ?_) (fun c1 => ?_)
  · skip
    have c1b : ¬ (0 ≤ (m) ∧ (m) < w 11 0) := of_decide_eq_false c1
    refine z_iconst C 25 dX0_isMethod_24 rfl ?_
    refine z_as (st' := [.int (iI (bI (false)))]) rfl rfl rfl ?_
    exact z_iret C dX0_isMethod_25 (bI_nar _) (Nat.le_of_ble_eq_true rfl) (Nat.le_of_ble_eq_true rfl) ⟨congrArg (fun b => some (Value.int (iI (bI b)))) (by clear C hκ hκl hS hB hB1 hB2 hB3 hB4 hB5 hB6 hC hw hX hs hT h81 h82; first | (simp_all [mtB, mbB, mb]; done) | (simp_all [mtB, mbB, mb] <;> omega) | (grind [mtB, mbB, mb]) | (simp [mtB, mbB, mb] at * <;> omega)), rfl⟩
  · skip
    have c1b : (0 ≤ (m) ∧ (m) < w 11 0) := of_decide_eq_true c1
    refine z_aload_n C 9 0 dX0_isMethod_8 rfl rfl ?_
    refine z_getf C hκ (v := .ref (σ 2 (0))) 12 2 zk_X0 hX.o (by decide) q329 (Or.inl rfl) rfl dX0_isMethod_9 rfl ?_
    refine z_iload_n C 13 1 dX0_isMethod_12 rfl rfl ?_
    refine x_aM C hκ 14 hX hs (by omega) (by omega) dX0_isMethod_13 rfl ?_
    obtain ⟨f2a, f2b, f2c, f2d⟩ := hS.M (show 0 ≤ m by omega) (by omega)
    refine z_getf C hκ (v := .int (iI (bI (mb w 16 (m))))) 17 4 zk_X9 (hX.mem (by omega) (by omega)) (by decide) q664 (Or.inl rfl) rfl dX0_isMethod_14 rfl ?_
    refine z_ifB_ne C 24 20 dX0_isMethod_17 (by decide) rfl (fun c3 => ?_) (fun c3 => ?_)
    · skip
      have c3b : (w 16 (m) = 1) := of_decide_eq_true c3
      refine z_iconst C 25 dX0_isMethod_24 rfl ?_
      refine z_as (st' := [.int (iI (bI (false)))]) rfl rfl rfl ?_
      exact z_iret C dX0_isMethod_25 (bI_nar _) (Nat.le_of_ble_eq_true rfl) (Nat.le_of_ble_eq_true rfl) ⟨congrArg (fun b => some (Value.int (iI (bI b)))) (by clear C hκ hκl hS hB hB1 hB2 hB3 hB4 hB5 hB6 hC hw hX hs hT h81 h82 f2a f2b f2c f2d; first | (simp_all [mtB, mbB, mb]; done) | (simp_all [mtB, mbB, mb] <;> omega) | (grind [mtB, mbB, mb]) | (simp [mtB, mbB, mb] at * <;> omega)), rfl⟩
    · skip
      have c3b : ¬ (w 16 (m) = 1) := of_decide_eq_false c3
      refine z_iconst C 21 dX0_isMethod_20 rfl ?_
      refine z_goto C 25 dX0_isMethod_21 (by decide) ?_
      refine z_as (st' := [.int (iI (bI (true)))]) rfl rfl rfl ?_
      exact z_iret C dX0_isMethod_25 (bI_nar _) (Nat.le_of_ble_eq_true rfl) (Nat.le_of_ble_eq_true rfl) ⟨congrArg (fun b => some (Value.int (iI (bI b)))) (by clear C hκ hκl hS hB hB1 hB2 hB3 hB4 hB5 hB6 hC hw hX hs hT h81 h82 f2a f2b f2c f2d; first | (simp_all [mtB, mbB, mb]; done) | (simp_all [mtB, mbB, mb] <;> omega) | (grind [mtB, mbB, mb]) | (simp [mtB, mbB, mb] at * <;> omega)), rfl⟩
set_option maxRecDepth 100000 in
theorem k0_isField {l : Launch} {θ : zTh} {σ : xA} {w : mW} {Lf : Int → List Int} {M N : zMap} (hX : xM θ σ w (Lf) M) (hs : xS w) (hw : mWF w) (hT : zTb θ) (m : Int) (r_m : inR m)  : ZM θ l yX0_isField cX0_isField 2 (some .boolean) ⟨2, 0, 0, 46⟩ [.ref (σ 0 (0)), .int (iI (m))] (zP θ M N) (zFn (some (.int (iI (bI (fdB w m))))) (zP θ M N)) := by
  refine z_start (own := RX0) (nm := "isField") pnX0 rfl rfl (Nat.le_of_ble_eq_true rfl) ?_
  intro κ hκ hκl C
  change Z κ (zP θ M N) 0 0 0 [(0, .ref (σ 0 (0))), (1, .int (iI (m)))] []
  have hS := hs.S
  have hB := hS.B
  obtain ⟨hB1, hB2, hB3, hB4, hB5, hB6⟩ := hS.B
  have hC := hS.C
  obtain ⟨h81, h82⟩ := hs.r8
  refine z_aload_n C 1 0 dX0_isField_0 rfl rfl ?_
  refine z_iload_n C 2 1 dX0_isField_1 rfl rfl ?_
  refine z_callV (As := [.int (iI (m))]) (rest := []) C hκ hκl 5 (k0_isMember hX hs hw hT (m) r_m) dX0_isField_2 q795 q797 qs7 q90 q798 znX0_isMember (Nat.le_of_ble_eq_true rfl) (Nat.le_of_ble_eq_true rfl) (Nat.le_of_ble_eq_true rfl) (Nat.le_of_ble_eq_true rfl) (zrec_P hX.o) rfl rfl (Nat.le_of_ble_eq_true rfl) rfl (fun v9 Q9 h9 => ?_)
  obtain ⟨rfl, rfl⟩ := h9
  refine z_as (st' := [.int (iI (bI (mbB w (m))))]) rfl rfl rfl ?_
  refine z_ifB_eq C 24 8 dX0_isField_5 (by decide) rfl (fun c1 => ?_) (fun c1 => ?_)
  · skip
    have c1b : ¬ (0 ≤ (m) ∧ (m) < w 11 0) := of_decide_eq_false c1
    refine z_iconst C 25 dX0_isField_24 rfl ?_
    refine z_as (st' := [.int (iI (bI (false)))]) rfl rfl rfl ?_
    exact z_iret C dX0_isField_25 (bI_nar _) (Nat.le_of_ble_eq_true rfl) (Nat.le_of_ble_eq_true rfl) ⟨congrArg (fun b => some (Value.int (iI (bI b)))) (by clear C hκ hκl hS hB hB1 hB2 hB3 hB4 hB5 hB6 hC hw hX hs hT h81 h82; first | (simp_all [fdB, mbB, mb]; done) | (simp_all [fdB, mbB, mb] <;> omega) | (grind [fdB, mbB, mb]) | (simp [fdB, mbB, mb] at * <;> omega)), rfl⟩
  · skip
    have c1b : (0 ≤ (m) ∧ (m) < w 11 0) := of_decide_eq_true c1
    refine z_aload_n C 9 0 dX0_isField_8 rfl rfl ?_
    refine z_getf C hκ (v := .ref (σ 2 (0))) 12 2 zk_X0 hX.o (by decide) q329 (Or.inl rfl) rfl dX0_isField_9 rfl ?_
    refine z_iload_n C 13 1 dX0_isField_12 rfl rfl ?_
    refine x_aM C hκ 14 hX hs (by omega) (by omega) dX0_isField_13 rfl ?_
    obtain ⟨f2a, f2b, f2c, f2d⟩ := hS.M (show 0 ≤ m by omega) (by omega)
    refine z_getf C hκ (v := .int (iI (bI (mb w 16 (m))))) 17 4 zk_X9 (hX.mem (by omega) (by omega)) (by decide) q664 (Or.inl rfl) rfl dX0_isField_14 rfl ?_
    refine z_ifB_eq C 24 20 dX0_isField_17 (by decide) rfl (fun c3 => ?_) (fun c3 => ?_)
    · skip
      have c3b : ¬ (w 16 (m) = 1) := of_decide_eq_false c3
      refine z_iconst C 25 dX0_isField_24 rfl ?_
      refine z_as (st' := [.int (iI (bI (false)))]) rfl rfl rfl ?_
      exact z_iret C dX0_isField_25 (bI_nar _) (Nat.le_of_ble_eq_true rfl) (Nat.le_of_ble_eq_true rfl) ⟨congrArg (fun b => some (Value.int (iI (bI b)))) (by clear C hκ hκl hS hB hB1 hB2 hB3 hB4 hB5 hB6 hC hw hX hs hT h81 h82 f2a f2b f2c f2d; first | (simp_all [fdB, mbB, mb]; done) | (simp_all [fdB, mbB, mb] <;> omega) | (grind [fdB, mbB, mb]) | (simp [fdB, mbB, mb] at * <;> omega)), rfl⟩
    · skip
      have c3b : (w 16 (m) = 1) := of_decide_eq_true c3
      refine z_iconst C 21 dX0_isField_20 rfl ?_
      refine z_goto C 25 dX0_isField_21 (by decide) ?_
      refine z_as (st' := [.int (iI (bI (true)))]) rfl rfl rfl ?_
      exact z_iret C dX0_isField_25 (bI_nar _) (Nat.le_of_ble_eq_true rfl) (Nat.le_of_ble_eq_true rfl) ⟨congrArg (fun b => some (Value.int (iI (bI b)))) (by clear C hκ hκl hS hB hB1 hB2 hB3 hB4 hB5 hB6 hC hw hX hs hT h81 h82 f2a f2b f2c f2d; first | (simp_all [fdB, mbB, mb]; done) | (simp_all [fdB, mbB, mb] <;> omega) | (grind [fdB, mbB, mb]) | (simp [fdB, mbB, mb] at * <;> omega)), rfl⟩
set_option maxRecDepth 100000 in
theorem k2_number {l : Launch} {θ : zTh} {σ : xA} {w : mW} {Lf : Int → List Int} {M N : zMap} (hX : xM θ σ w (Lf) M) (hs : xS w) (hw : mWF w) (hT : zTb θ) (t : Int)  (ht : 0 ≤ t ∧ t < w 0 0)  : ZM θ l yX2_number cX2_number 1 (some .int) ⟨0, 0, 0, 0⟩ [.ref (σ 10 (t))] (zP θ M N) (zFn (some (.int (iI (t)))) (zP θ M N)) := by
  refine z_start (own := RX2) (nm := "number") pnX2 rfl rfl (Nat.le_of_ble_eq_true rfl) ?_
  intro κ hκ hκl C
  change Z κ (zP θ M N) 0 0 0 [(0, .ref (σ 10 (t)))] []
  have hS := hs.S
  have hB := hS.B
  obtain ⟨hB1, hB2, hB3, hB4, hB5, hB6⟩ := hS.B
  have hC := hS.C
  obtain ⟨h81, h82⟩ := hs.r8
  obtain ⟨f1a, f1b, f1c, f1d, f1e, f1f, f1g, f1h⟩ := hS.T (show 0 ≤ t by omega) (by omega)
  obtain ⟨f1i, f1j, f1k, f1l⟩ := hs.ty (show 0 ≤ t by omega) (by omega)
  refine z_aload_n C 1 0 dX2_number_0 rfl rfl ?_
  refine x_tget (v := .int (iI (t))) C hκ 4 0 hX hs (by omega) (by omega) (by decide) rfl rfl rfl q175 (Or.inl rfl) rfl dX2_number_1 rfl ?_
  exact z_iret C dX2_number_4 rfl (Nat.le_of_ble_eq_true rfl) (Nat.le_of_ble_eq_true rfl) ⟨congrArg (fun z => some (Value.int (iI z))) (rfl), rfl⟩
set_option maxRecDepth 100000 in
theorem k3_what {l : Launch} {θ : zTh} {σ : xA} {w : mW} {Lf : Int → List Int} {M N : zMap} (hX : xM θ σ w (Lf) M) (hs : xS w) (hw : mWF w) (hT : zTb θ) (t : Int)  (ht : 0 ≤ t ∧ t < w 0 0) (hc : t < 8 ∧ w 1 t = 0 ∧ xci w t = 3) : ZM θ l yX3_what cX3_what 1 (some .int) ⟨0, 0, 0, 0⟩ [.ref (σ 10 (t))] (zP θ M N) (zFn (some (.int (iI (w 1 t)))) (zP θ M N)) := by
  refine z_start (own := RX3) (nm := "what") pnX3 rfl rfl (Nat.le_of_ble_eq_true rfl) ?_
  intro κ hκ hκl C
  change Z κ (zP θ M N) 0 0 0 [(0, .ref (σ 10 (t)))] []
  have hS := hs.S
  have hB := hS.B
  obtain ⟨hB1, hB2, hB3, hB4, hB5, hB6⟩ := hS.B
  have hC := hS.C
  obtain ⟨h81, h82⟩ := hs.r8
  obtain ⟨f1a, f1b, f1c, f1d, f1e, f1f, f1g, f1h⟩ := hS.T (show 0 ≤ t by omega) (by omega)
  obtain ⟨f1i, f1j, f1k, f1l⟩ := hs.ty (show 0 ≤ t by omega) (by omega)
  refine z_iconst C 1 dX3_what_0 rfl ?_
  exact z_iret C dX3_what_1 rfl (Nat.le_of_ble_eq_true rfl) (Nat.le_of_ble_eq_true rfl) ⟨congrArg (fun z => some (Value.int (iI z))) (hc.2.1.symm), rfl⟩
set_option maxRecDepth 100000 in
theorem k4_what {l : Launch} {θ : zTh} {σ : xA} {w : mW} {Lf : Int → List Int} {M N : zMap} (hX : xM θ σ w (Lf) M) (hs : xS w) (hw : mWF w) (hT : zTb θ) (t : Int)  (ht : 0 ≤ t ∧ t < w 0 0) (hc : 8 ≤ t ∧ w 1 t = 3 ∧ xci w t = 4) : ZM θ l yX4_what cX4_what 1 (some .int) ⟨0, 0, 0, 0⟩ [.ref (σ 10 (t))] (zP θ M N) (zFn (some (.int (iI (w 1 t)))) (zP θ M N)) := by
  refine z_start (own := RX4) (nm := "what") pnX4 rfl rfl (Nat.le_of_ble_eq_true rfl) ?_
  intro κ hκ hκl C
  change Z κ (zP θ M N) 0 0 0 [(0, .ref (σ 10 (t)))] []
  have hS := hs.S
  have hB := hS.B
  obtain ⟨hB1, hB2, hB3, hB4, hB5, hB6⟩ := hS.B
  have hC := hS.C
  obtain ⟨h81, h82⟩ := hs.r8
  obtain ⟨f1a, f1b, f1c, f1d, f1e, f1f, f1g, f1h⟩ := hS.T (show 0 ≤ t by omega) (by omega)
  obtain ⟨f1i, f1j, f1k, f1l⟩ := hs.ty (show 0 ≤ t by omega) (by omega)
  refine z_iconst C 1 dX4_what_0 rfl ?_
  exact z_iret C dX4_what_1 rfl (Nat.le_of_ble_eq_true rfl) (Nat.le_of_ble_eq_true rfl) ⟨congrArg (fun z => some (Value.int (iI z))) (hc.2.1.symm), rfl⟩
set_option maxRecDepth 100000 in
theorem k5_what {l : Launch} {θ : zTh} {σ : xA} {w : mW} {Lf : Int → List Int} {M N : zMap} (hX : xM θ σ w (Lf) M) (hs : xS w) (hw : mWF w) (hT : zTb θ) (t : Int)  (ht : 0 ≤ t ∧ t < w 0 0) (hc : 8 ≤ t ∧ (w 1 t = 1 ∨ w 1 t = 2) ∧ xci w t = 5) : ZM θ l yX5_what cX5_what 1 (some .int) ⟨0, 0, 0, 0⟩ [.ref (σ 10 (t))] (zP θ M N) (zFn (some (.int (iI (w 1 t)))) (zP θ M N)) := by
  refine z_start (own := RX5) (nm := "what") pnX5 rfl rfl (Nat.le_of_ble_eq_true rfl) ?_
  intro κ hκ hκl C
  change Z κ (zP θ M N) 0 0 0 [(0, .ref (σ 10 (t)))] []
  have hS := hs.S
  have hB := hS.B
  obtain ⟨hB1, hB2, hB3, hB4, hB5, hB6⟩ := hS.B
  have hC := hS.C
  obtain ⟨h81, h82⟩ := hs.r8
  obtain ⟨f1a, f1b, f1c, f1d, f1e, f1f, f1g, f1h⟩ := hS.T (show 0 ≤ t by omega) (by omega)
  obtain ⟨f1i, f1j, f1k, f1l⟩ := hs.ty (show 0 ≤ t by omega) (by omega)
  refine z_aload_n C 1 0 dX5_what_0 rfl rfl ?_
  refine z_getf C hκ (v := .int (iI (bI (decide (w 1 (t) = 2))))) 4 9 zk_X5 (xM.ty5 hX (by omega) (by omega) hc.2.2) (by decide) q227 (Or.inl rfl) rfl dX5_what_1 rfl ?_
  refine z_ifB_eq C 11 7 dX5_what_4 (by decide) rfl (fun c2 => ?_) (fun c2 => ?_)
  · skip
    have c2b : ¬ ((w 1 (t) = 2)) := of_decide_eq_false c2
    refine z_iconst C 12 dX5_what_11 rfl ?_
    exact z_iret C dX5_what_12 rfl (Nat.le_of_ble_eq_true rfl) (Nat.le_of_ble_eq_true rfl) ⟨congrArg (fun z => some (Value.int (iI z))) (by clear C hκ hκl hS hB hB1 hB2 hB3 hB4 hB5 hB6 hC hw hX hs hT h81 h82 f1a f1b f1c f1d f1e f1f f1g f1h f1i f1j f1k f1l; first | (simp_all []; done) | (simp_all [] <;> omega) | (grind []) | (simp [] at * <;> omega)), rfl⟩
  · skip
    have c2b : ((w 1 (t) = 2)) := of_decide_eq_true c2
    refine z_iconst C 8 dX5_what_7 rfl ?_
    refine z_goto C 12 dX5_what_8 (by decide) ?_
    exact z_iret C dX5_what_12 rfl (Nat.le_of_ble_eq_true rfl) (Nat.le_of_ble_eq_true rfl) ⟨congrArg (fun z => some (Value.int (iI z))) (by clear C hκ hκl hS hB hB1 hB2 hB3 hB4 hB5 hB6 hC hw hX hs hT h81 h82 f1a f1b f1c f1d f1e f1f f1g f1h f1i f1j f1k f1l; first | (simp_all []; done) | (simp_all [] <;> omega) | (grind []) | (simp [] at * <;> omega)), rfl⟩
set_option maxRecDepth 100000 in
theorem k8_what {l : Launch} {θ : zTh} {σ : xA} {w : mW} {Lf : Int → List Int} {M N : zMap} (hX : xM θ σ w (Lf) M) (hs : xS w) (hw : mWF w) (hT : zTb θ) (t : Int)  (ht : 0 ≤ t ∧ t < w 0 0) (hc : 8 ≤ t ∧ w 1 t = 4 ∧ xci w t = 8) : ZM θ l yX8_what cX8_what 1 (some .int) ⟨0, 0, 0, 0⟩ [.ref (σ 10 (t))] (zP θ M N) (zFn (some (.int (iI (w 1 t)))) (zP θ M N)) := by
  refine z_start (own := RX8) (nm := "what") pnX8 rfl rfl (Nat.le_of_ble_eq_true rfl) ?_
  intro κ hκ hκl C
  change Z κ (zP θ M N) 0 0 0 [(0, .ref (σ 10 (t)))] []
  have hS := hs.S
  have hB := hS.B
  obtain ⟨hB1, hB2, hB3, hB4, hB5, hB6⟩ := hS.B
  have hC := hS.C
  obtain ⟨h81, h82⟩ := hs.r8
  obtain ⟨f1a, f1b, f1c, f1d, f1e, f1f, f1g, f1h⟩ := hS.T (show 0 ≤ t by omega) (by omega)
  obtain ⟨f1i, f1j, f1k, f1l⟩ := hs.ty (show 0 ≤ t by omega) (by omega)
  refine z_iconst C 1 dX8_what_0 rfl ?_
  exact z_iret C dX8_what_1 rfl (Nat.le_of_ble_eq_true rfl) (Nat.le_of_ble_eq_true rfl) ⟨congrArg (fun z => some (Value.int (iI z))) (hc.2.1.symm), rfl⟩
set_option maxRecDepth 100000 in
theorem k2_parent {l : Launch} {θ : zTh} {σ : xA} {w : mW} {Lf : Int → List Int} {M N : zMap} (hX : xM θ σ w (Lf) M) (hs : xS w) (hw : mWF w) (hT : zTb θ) (t : Int)  (ht : 0 ≤ t ∧ t < w 0 0) (hc : w 1 t = 0 ∨ w 1 t = 3) : ZM θ l yX2_parent cX2_parent 1 (some (.object "ReflectMirror$Type")) ⟨0, 0, 0, 0⟩ [.ref (σ 10 (t))] (zP θ M N) (zFn (some (va_rf (xo σ 10 (w 2 t)))) (zP θ M N)) := by
  refine z_start (own := RX2) (nm := "parent") pnX2 rfl rfl (Nat.le_of_ble_eq_true rfl) ?_
  intro κ hκ hκl C
  change Z κ (zP θ M N) 0 0 0 [(0, .ref (σ 10 (t)))] []
  have hS := hs.S
  have hB := hS.B
  obtain ⟨hB1, hB2, hB3, hB4, hB5, hB6⟩ := hS.B
  have hC := hS.C
  obtain ⟨h81, h82⟩ := hs.r8
  obtain ⟨f1a, f1b, f1c, f1d, f1e, f1f, f1g, f1h⟩ := hS.T (show 0 ≤ t by omega) (by omega)
  obtain ⟨f1i, f1j, f1k, f1l⟩ := hs.ty (show 0 ≤ t by omega) (by omega)
  refine z_null C 1 dX2_parent_0 rfl ?_
  exact z_aret C dX2_parent_1 (Or.inl ⟨_, rfl⟩) (Or.inl rfl) (Nat.le_of_ble_eq_true rfl) (Nat.le_of_ble_eq_true rfl) ⟨congrArg some (by rw [xo_n (show w 2 t < 0 by omega)]; rfl), rfl⟩
set_option maxRecDepth 100000 in
theorem k5_parent {l : Launch} {θ : zTh} {σ : xA} {w : mW} {Lf : Int → List Int} {M N : zMap} (hX : xM θ σ w (Lf) M) (hs : xS w) (hw : mWF w) (hT : zTb θ) (t : Int)  (ht : 0 ≤ t ∧ t < w 0 0) (hc : 8 ≤ t ∧ (w 1 t = 1 ∨ w 1 t = 2) ∧ xci w t = 5) : ZM θ l yX5_parent cX5_parent 1 (some (.object "ReflectMirror$Type")) ⟨0, 0, 0, 0⟩ [.ref (σ 10 (t))] (zP θ M N) (zFn (some (va_rf (xo σ 10 (w 2 t)))) (zP θ M N)) := by
  refine z_start (own := RX5) (nm := "parent") pnX5 rfl rfl (Nat.le_of_ble_eq_true rfl) ?_
  intro κ hκ hκl C
  change Z κ (zP θ M N) 0 0 0 [(0, .ref (σ 10 (t)))] []
  have hS := hs.S
  have hB := hS.B
  obtain ⟨hB1, hB2, hB3, hB4, hB5, hB6⟩ := hS.B
  have hC := hS.C
  obtain ⟨h81, h82⟩ := hs.r8
  obtain ⟨f1a, f1b, f1c, f1d, f1e, f1f, f1g, f1h⟩ := hS.T (show 0 ≤ t by omega) (by omega)
  obtain ⟨f1i, f1j, f1k, f1l⟩ := hs.ty (show 0 ≤ t by omega) (by omega)
  refine z_aload_n C 1 0 dX5_parent_0 rfl rfl ?_
  refine z_getf C hκ (v := va_rf (xo σ 10 (w 2 (t)))) 4 8 zk_X5 (xM.ty5 hX (by omega) (by omega) hc.2.2) (by decide) q226 (Or.inl rfl) rfl dX5_parent_1 rfl ?_
  exact z_aret C dX5_parent_4 (Or.inl ⟨_, rfl⟩) (z_rfv _) (Nat.le_of_ble_eq_true rfl) (Nat.le_of_ble_eq_true rfl) ⟨congrArg some (rfl), rfl⟩
set_option maxRecDepth 100000 in
theorem k8_parent {l : Launch} {θ : zTh} {σ : xA} {w : mW} {Lf : Int → List Int} {M N : zMap} (hX : xM θ σ w (Lf) M) (hs : xS w) (hw : mWF w) (hT : zTb θ) (t : Int)  (ht : 0 ≤ t ∧ t < w 0 0) (hc : 8 ≤ t ∧ w 1 t = 4 ∧ xci w t = 8) : ZM θ l yX8_parent cX8_parent 1 (some (.object "ReflectMirror$Type")) ⟨0, 0, 0, 0⟩ [.ref (σ 10 (t))] (zP θ M N) (zFn (some (va_rf (xo σ 10 (w 2 t)))) (zP θ M N)) := by
  refine z_start (own := RX8) (nm := "parent") pnX8 rfl rfl (Nat.le_of_ble_eq_true rfl) ?_
  intro κ hκ hκl C
  change Z κ (zP θ M N) 0 0 0 [(0, .ref (σ 10 (t)))] []
  have hS := hs.S
  have hB := hS.B
  obtain ⟨hB1, hB2, hB3, hB4, hB5, hB6⟩ := hS.B
  have hC := hS.C
  obtain ⟨h81, h82⟩ := hs.r8
  obtain ⟨f1a, f1b, f1c, f1d, f1e, f1f, f1g, f1h⟩ := hS.T (show 0 ≤ t by omega) (by omega)
  obtain ⟨f1i, f1j, f1k, f1l⟩ := hs.ty (show 0 ≤ t by omega) (by omega)
  refine z_aload_n C 1 0 dX8_parent_0 rfl rfl ?_
  refine z_getf C hκ (v := .ref (σ 10 (8))) 4 9 zk_X8 (xM.ty8 hX (by omega) (by omega) hc.2.2) (by decide) q430 (Or.inl rfl) rfl dX8_parent_1 rfl ?_
  exact z_aret C dX8_parent_4 (Or.inl ⟨_, rfl⟩) (Or.inr ⟨_, rfl⟩) (Nat.le_of_ble_eq_true rfl) (Nat.le_of_ble_eq_true rfl) ⟨congrArg some (by rw [xo_y (show 0 ≤ w 2 t by omega), show w 2 t = 8 by omega]; rfl), rfl⟩
set_option maxRecDepth 100000 in
theorem k2_of {l : Launch} {θ : zTh} {σ : xA} {w : mW} {Lf : Int → List Int} {M N : zMap} (hX : xM θ σ w (Lf) M) (hs : xS w) (hw : mWF w) (hT : zTb θ) (t : Int)  (ht : 0 ≤ t ∧ t < w 0 0) (hc : w 1 t ≠ 4) : ZM θ l yX2_of cX2_of 1 (some (.object "ReflectMirror$Type")) ⟨0, 0, 0, 0⟩ [.ref (σ 10 (t))] (zP θ M N) (zFn (some (va_rf (xo σ 10 (w 4 t)))) (zP θ M N)) := by
  refine z_start (own := RX2) (nm := "of") pnX2 rfl rfl (Nat.le_of_ble_eq_true rfl) ?_
  intro κ hκ hκl C
  change Z κ (zP θ M N) 0 0 0 [(0, .ref (σ 10 (t)))] []
  have hS := hs.S
  have hB := hS.B
  obtain ⟨hB1, hB2, hB3, hB4, hB5, hB6⟩ := hS.B
  have hC := hS.C
  obtain ⟨h81, h82⟩ := hs.r8
  obtain ⟨f1a, f1b, f1c, f1d, f1e, f1f, f1g, f1h⟩ := hS.T (show 0 ≤ t by omega) (by omega)
  obtain ⟨f1i, f1j, f1k, f1l⟩ := hs.ty (show 0 ≤ t by omega) (by omega)
  refine z_null C 1 dX2_of_0 rfl ?_
  exact z_aret C dX2_of_1 (Or.inl ⟨_, rfl⟩) (Or.inl rfl) (Nat.le_of_ble_eq_true rfl) (Nat.le_of_ble_eq_true rfl) ⟨congrArg some (by rw [xo_n (show w 4 t < 0 by omega)]; rfl), rfl⟩
set_option maxRecDepth 100000 in
theorem k8_of {l : Launch} {θ : zTh} {σ : xA} {w : mW} {Lf : Int → List Int} {M N : zMap} (hX : xM θ σ w (Lf) M) (hs : xS w) (hw : mWF w) (hT : zTb θ) (t : Int)  (ht : 0 ≤ t ∧ t < w 0 0) (hc : 8 ≤ t ∧ w 1 t = 4 ∧ xci w t = 8) : ZM θ l yX8_of cX8_of 1 (some (.object "ReflectMirror$Type")) ⟨0, 0, 0, 0⟩ [.ref (σ 10 (t))] (zP θ M N) (zFn (some (va_rf (xo σ 10 (w 4 t)))) (zP θ M N)) := by
  refine z_start (own := RX8) (nm := "of") pnX8 rfl rfl (Nat.le_of_ble_eq_true rfl) ?_
  intro κ hκ hκl C
  change Z κ (zP θ M N) 0 0 0 [(0, .ref (σ 10 (t)))] []
  have hS := hs.S
  have hB := hS.B
  obtain ⟨hB1, hB2, hB3, hB4, hB5, hB6⟩ := hS.B
  have hC := hS.C
  obtain ⟨h81, h82⟩ := hs.r8
  obtain ⟨f1a, f1b, f1c, f1d, f1e, f1f, f1g, f1h⟩ := hS.T (show 0 ≤ t by omega) (by omega)
  obtain ⟨f1i, f1j, f1k, f1l⟩ := hs.ty (show 0 ≤ t by omega) (by omega)
  refine z_aload_n C 1 0 dX8_of_0 rfl rfl ?_
  refine z_getf C hκ (v := va_rf (xo σ 10 (w 4 (t)))) 4 8 zk_X8 (xM.ty8 hX (by omega) (by omega) hc.2.2) (by decide) q429 (Or.inl rfl) rfl dX8_of_1 rfl ?_
  exact z_aret C dX8_of_4 (Or.inl ⟨_, rfl⟩) (z_rfv _) (Nat.le_of_ble_eq_true rfl) (Nat.le_of_ble_eq_true rfl) ⟨congrArg some (rfl), rfl⟩
set_option maxRecDepth 100000 in
theorem k2_isReference {l : Launch} {θ : zTh} {σ : xA} {w : mW} {Lf : Int → List Int} {M N : zMap} (hX : xM θ σ w (Lf) M) (hs : xS w) (hw : mWF w) (hT : zTb θ) (t : Int)  (ht : 0 ≤ t ∧ t < w 0 0) (hc : 8 ≤ t) : ZM θ l yX2_isReference cX2_isReference 1 (some .boolean) ⟨0, 0, 0, 0⟩ [.ref (σ 10 (t))] (zP θ M N) (zFn (some (.int (iI (bI (rfB w t))))) (zP θ M N)) := by
  refine z_start (own := RX2) (nm := "isReference") pnX2 rfl rfl (Nat.le_of_ble_eq_true rfl) ?_
  intro κ hκ hκl C
  change Z κ (zP θ M N) 0 0 0 [(0, .ref (σ 10 (t)))] []
  have hS := hs.S
  have hB := hS.B
  obtain ⟨hB1, hB2, hB3, hB4, hB5, hB6⟩ := hS.B
  have hC := hS.C
  obtain ⟨h81, h82⟩ := hs.r8
  obtain ⟨f1a, f1b, f1c, f1d, f1e, f1f, f1g, f1h⟩ := hS.T (show 0 ≤ t by omega) (by omega)
  obtain ⟨f1i, f1j, f1k, f1l⟩ := hs.ty (show 0 ≤ t by omega) (by omega)
  refine z_iconst C 1 dX2_isReference_0 rfl ?_
  refine z_as (st' := [.int (iI (bI (true)))]) rfl rfl rfl ?_
  exact z_iret C dX2_isReference_1 (bI_nar _) (Nat.le_of_ble_eq_true rfl) (Nat.le_of_ble_eq_true rfl) ⟨congrArg (fun b => some (Value.int (iI (bI b)))) (by clear C hκ hκl hS hB hB1 hB2 hB3 hB4 hB5 hB6 hC hw hX hs hT h81 h82 f1a f1b f1c f1d f1e f1f f1g f1h f1i f1j f1k f1l; first | (simp_all [rfB]; done) | (simp_all [rfB] <;> omega) | (grind [rfB]) | (simp [rfB] at * <;> omega)), rfl⟩
set_option maxRecDepth 100000 in
theorem k3_isReference {l : Launch} {θ : zTh} {σ : xA} {w : mW} {Lf : Int → List Int} {M N : zMap} (hX : xM θ σ w (Lf) M) (hs : xS w) (hw : mWF w) (hT : zTb θ) (t : Int)  (ht : 0 ≤ t ∧ t < w 0 0) (hc : t < 8 ∧ w 1 t = 0 ∧ xci w t = 3) : ZM θ l yX3_isReference cX3_isReference 1 (some .boolean) ⟨0, 0, 0, 0⟩ [.ref (σ 10 (t))] (zP θ M N) (zFn (some (.int (iI (bI (rfB w t))))) (zP θ M N)) := by
  refine z_start (own := RX3) (nm := "isReference") pnX3 rfl rfl (Nat.le_of_ble_eq_true rfl) ?_
  intro κ hκ hκl C
  change Z κ (zP θ M N) 0 0 0 [(0, .ref (σ 10 (t)))] []
  have hS := hs.S
  have hB := hS.B
  obtain ⟨hB1, hB2, hB3, hB4, hB5, hB6⟩ := hS.B
  have hC := hS.C
  obtain ⟨h81, h82⟩ := hs.r8
  obtain ⟨f1a, f1b, f1c, f1d, f1e, f1f, f1g, f1h⟩ := hS.T (show 0 ≤ t by omega) (by omega)
  obtain ⟨f1i, f1j, f1k, f1l⟩ := hs.ty (show 0 ≤ t by omega) (by omega)
  refine z_iconst C 1 dX3_isReference_0 rfl ?_
  refine z_as (st' := [.int (iI (bI (false)))]) rfl rfl rfl ?_
  exact z_iret C dX3_isReference_1 (bI_nar _) (Nat.le_of_ble_eq_true rfl) (Nat.le_of_ble_eq_true rfl) ⟨congrArg (fun b => some (Value.int (iI (bI b)))) (by clear C hκ hκl hS hB hB1 hB2 hB3 hB4 hB5 hB6 hC hw hX hs hT h81 h82 f1a f1b f1c f1d f1e f1f f1g f1h f1i f1j f1k f1l; first | (simp_all [rfB]; done) | (simp_all [rfB] <;> omega) | (grind [rfB]) | (simp [rfB] at * <;> omega)), rfl⟩
set_option maxRecDepth 100000 in
theorem k2_isClass {l : Launch} {θ : zTh} {σ : xA} {w : mW} {Lf : Int → List Int} {M N : zMap} (hX : xM θ σ w (Lf) M) (hs : xS w) (hw : mWF w) (hT : zTb θ) (t : Int)  (ht : 0 ≤ t ∧ t < w 0 0) (hc : w 1 t ≠ 1 ∧ w 1 t ≠ 2) : ZM θ l yX2_isClass cX2_isClass 1 (some .boolean) ⟨0, 0, 0, 0⟩ [.ref (σ 10 (t))] (zP θ M N) (zFn (some (.int (iI (bI (clB w t))))) (zP θ M N)) := by
  refine z_start (own := RX2) (nm := "isClass") pnX2 rfl rfl (Nat.le_of_ble_eq_true rfl) ?_
  intro κ hκ hκl C
  change Z κ (zP θ M N) 0 0 0 [(0, .ref (σ 10 (t)))] []
  have hS := hs.S
  have hB := hS.B
  obtain ⟨hB1, hB2, hB3, hB4, hB5, hB6⟩ := hS.B
  have hC := hS.C
  obtain ⟨h81, h82⟩ := hs.r8
  obtain ⟨f1a, f1b, f1c, f1d, f1e, f1f, f1g, f1h⟩ := hS.T (show 0 ≤ t by omega) (by omega)
  obtain ⟨f1i, f1j, f1k, f1l⟩ := hs.ty (show 0 ≤ t by omega) (by omega)
  refine z_iconst C 1 dX2_isClass_0 rfl ?_
  refine z_as (st' := [.int (iI (bI (false)))]) rfl rfl rfl ?_
  exact z_iret C dX2_isClass_1 (bI_nar _) (Nat.le_of_ble_eq_true rfl) (Nat.le_of_ble_eq_true rfl) ⟨congrArg (fun b => some (Value.int (iI (bI b)))) (by clear C hκ hκl hS hB hB1 hB2 hB3 hB4 hB5 hB6 hC hw hX hs hT h81 h82 f1a f1b f1c f1d f1e f1f f1g f1h f1i f1j f1k f1l; first | (simp_all [clB]; done) | (simp_all [clB] <;> omega) | (grind [clB]) | (simp [clB] at * <;> omega)), rfl⟩
set_option maxRecDepth 100000 in
theorem k5_isClass {l : Launch} {θ : zTh} {σ : xA} {w : mW} {Lf : Int → List Int} {M N : zMap} (hX : xM θ σ w (Lf) M) (hs : xS w) (hw : mWF w) (hT : zTb θ) (t : Int)  (ht : 0 ≤ t ∧ t < w 0 0) (hc : 8 ≤ t ∧ (w 1 t = 1 ∨ w 1 t = 2) ∧ xci w t = 5) : ZM θ l yX5_isClass cX5_isClass 1 (some .boolean) ⟨0, 0, 0, 0⟩ [.ref (σ 10 (t))] (zP θ M N) (zFn (some (.int (iI (bI (clB w t))))) (zP θ M N)) := by
  refine z_start (own := RX5) (nm := "isClass") pnX5 rfl rfl (Nat.le_of_ble_eq_true rfl) ?_
  intro κ hκ hκl C
  change Z κ (zP θ M N) 0 0 0 [(0, .ref (σ 10 (t)))] []
  have hS := hs.S
  have hB := hS.B
  obtain ⟨hB1, hB2, hB3, hB4, hB5, hB6⟩ := hS.B
  have hC := hS.C
  obtain ⟨h81, h82⟩ := hs.r8
  obtain ⟨f1a, f1b, f1c, f1d, f1e, f1f, f1g, f1h⟩ := hS.T (show 0 ≤ t by omega) (by omega)
  obtain ⟨f1i, f1j, f1k, f1l⟩ := hs.ty (show 0 ≤ t by omega) (by omega)
  refine z_iconst C 1 dX5_isClass_0 rfl ?_
  refine z_as (st' := [.int (iI (bI (true)))]) rfl rfl rfl ?_
  exact z_iret C dX5_isClass_1 (bI_nar _) (Nat.le_of_ble_eq_true rfl) (Nat.le_of_ble_eq_true rfl) ⟨congrArg (fun b => some (Value.int (iI (bI b)))) (by clear C hκ hκl hS hB hB1 hB2 hB3 hB4 hB5 hB6 hC hw hX hs hT h81 h82 f1a f1b f1c f1d f1e f1f f1g f1h f1i f1j f1k f1l; first | (simp_all [clB]; done) | (simp_all [clB] <;> omega) | (grind [clB]) | (simp [clB] at * <;> omega)), rfl⟩
set_option maxRecDepth 100000 in
theorem k2_declares {l : Launch} {θ : zTh} {σ : xA} {w : mW} {Lf : Int → List Int} {M N : zMap} (hX : xM θ σ w (Lf) M) (hs : xS w) (hw : mWF w) (hT : zTb θ) (t : Int)  (ht : 0 ≤ t ∧ t < w 0 0) (hc : w 1 t = 0 ∨ w 1 t = 4) : ZM θ l yX2_declares cX2_declares 1 (some .boolean) ⟨0, 0, 0, 0⟩ [.ref (σ 10 (t))] (zP θ M N) (zFn (some (.int (iI (bI (dcB w t))))) (zP θ M N)) := by
  refine z_start (own := RX2) (nm := "declares") pnX2 rfl rfl (Nat.le_of_ble_eq_true rfl) ?_
  intro κ hκ hκl C
  change Z κ (zP θ M N) 0 0 0 [(0, .ref (σ 10 (t)))] []
  have hS := hs.S
  have hB := hS.B
  obtain ⟨hB1, hB2, hB3, hB4, hB5, hB6⟩ := hS.B
  have hC := hS.C
  obtain ⟨h81, h82⟩ := hs.r8
  obtain ⟨f1a, f1b, f1c, f1d, f1e, f1f, f1g, f1h⟩ := hS.T (show 0 ≤ t by omega) (by omega)
  obtain ⟨f1i, f1j, f1k, f1l⟩ := hs.ty (show 0 ≤ t by omega) (by omega)
  refine z_iconst C 1 dX2_declares_0 rfl ?_
  refine z_as (st' := [.int (iI (bI (false)))]) rfl rfl rfl ?_
  exact z_iret C dX2_declares_1 (bI_nar _) (Nat.le_of_ble_eq_true rfl) (Nat.le_of_ble_eq_true rfl) ⟨congrArg (fun b => some (Value.int (iI (bI b)))) (by clear C hκ hκl hS hB hB1 hB2 hB3 hB4 hB5 hB6 hC hw hX hs hT h81 h82 f1a f1b f1c f1d f1e f1f f1g f1h f1i f1j f1k f1l; first | (simp_all [dcB]; done) | (simp_all [dcB] <;> omega) | (grind [dcB]) | (simp [dcB] at * <;> omega)), rfl⟩
set_option maxRecDepth 100000 in
theorem k4_declares {l : Launch} {θ : zTh} {σ : xA} {w : mW} {Lf : Int → List Int} {M N : zMap} (hX : xM θ σ w (Lf) M) (hs : xS w) (hw : mWF w) (hT : zTb θ) (t : Int)  (ht : 0 ≤ t ∧ t < w 0 0) (hc : w 1 t = 3) : ZM θ l yX4_declares cX4_declares 1 (some .boolean) ⟨0, 0, 0, 0⟩ [.ref (σ 10 (t))] (zP θ M N) (zFn (some (.int (iI (bI (dcB w t))))) (zP θ M N)) := by
  refine z_start (own := RX4) (nm := "declares") pnX4 rfl rfl (Nat.le_of_ble_eq_true rfl) ?_
  intro κ hκ hκl C
  change Z κ (zP θ M N) 0 0 0 [(0, .ref (σ 10 (t)))] []
  have hS := hs.S
  have hB := hS.B
  obtain ⟨hB1, hB2, hB3, hB4, hB5, hB6⟩ := hS.B
  have hC := hS.C
  obtain ⟨h81, h82⟩ := hs.r8
  obtain ⟨f1a, f1b, f1c, f1d, f1e, f1f, f1g, f1h⟩ := hS.T (show 0 ≤ t by omega) (by omega)
  obtain ⟨f1i, f1j, f1k, f1l⟩ := hs.ty (show 0 ≤ t by omega) (by omega)
  have h5 : t ≠ 8 := fun e => by rw [e] at hc; omega
  refine z_iconst C 1 dX4_declares_0 rfl ?_
  refine z_as (st' := [.int (iI (bI (true)))]) rfl rfl rfl ?_
  exact z_iret C dX4_declares_1 (bI_nar _) (Nat.le_of_ble_eq_true rfl) (Nat.le_of_ble_eq_true rfl) ⟨congrArg (fun b => some (Value.int (iI (bI b)))) (by unfold dcB; simp; omega), rfl⟩
set_option maxRecDepth 100000 in
theorem k5_declares {l : Launch} {θ : zTh} {σ : xA} {w : mW} {Lf : Int → List Int} {M N : zMap} (hX : xM θ σ w (Lf) M) (hs : xS w) (hw : mWF w) (hT : zTb θ) (t : Int)  (ht : 0 ≤ t ∧ t < w 0 0) (hc : 8 ≤ t ∧ (w 1 t = 1 ∨ w 1 t = 2) ∧ xci w t = 5) : ZM θ l yX5_declares cX5_declares 1 (some .boolean) ⟨0, 0, 0, 0⟩ [.ref (σ 10 (t))] (zP θ M N) (zFn (some (.int (iI (bI (dcB w t))))) (zP θ M N)) := by
  refine z_start (own := RX5) (nm := "declares") pnX5 rfl rfl (Nat.le_of_ble_eq_true rfl) ?_
  intro κ hκ hκl C
  change Z κ (zP θ M N) 0 0 0 [(0, .ref (σ 10 (t)))] []
  have hS := hs.S
  have hB := hS.B
  obtain ⟨hB1, hB2, hB3, hB4, hB5, hB6⟩ := hS.B
  have hC := hS.C
  obtain ⟨h81, h82⟩ := hs.r8
  obtain ⟨f1a, f1b, f1c, f1d, f1e, f1f, f1g, f1h⟩ := hS.T (show 0 ≤ t by omega) (by omega)
  obtain ⟨f1i, f1j, f1k, f1l⟩ := hs.ty (show 0 ≤ t by omega) (by omega)
  have h2 := (hs.BT t ht.1 ht.2).2.1
  have h3 : clT w t = true := by unfold clT; simp; omega
  have h4 := h2 h3
  have h5 : t = 8 → w 2 t < 0 := fun e => by rw [e, h82]; decide
  refine z_aload_n C 1 0 dX5_declares_0 rfl rfl ?_
  refine z_getf C hκ (v := va_rf (xo σ 10 (w 2 (t)))) 4 8 zk_X5 (xM.ty5 hX (by omega) (by omega) hc.2.2) (by decide) q226 (Or.inl rfl) rfl dX5_declares_1 rfl ?_
  rcases Int.lt_or_le (w 2 (t)) 0 with n2 | n2
  · skip
    rw [xo_n n2]
    refine z_as (st' := [.null]) (lv' := [(0, .ref (σ 10 (t)))]) rfl rfl rfl ?_
    refine z_ifnullN C 11 dX5_declares_4 (by decide) ?_
    refine z_iconst C 12 dX5_declares_11 rfl ?_
    refine z_as (st' := [.int (iI (bI (false)))]) rfl rfl rfl ?_
    exact z_iret C dX5_declares_12 (bI_nar _) (Nat.le_of_ble_eq_true rfl) (Nat.le_of_ble_eq_true rfl) ⟨congrArg (fun b => some (Value.int (iI (bI b)))) (by unfold dcB; simp; omega), rfl⟩
  · skip
    rw [xo_y n2]
    refine z_as (st' := [.ref (σ 10 (w 2 (t)))]) (lv' := [(0, .ref (σ 10 (t)))]) rfl rfl rfl ?_
    refine z_ifnull C 7 dX5_declares_4 rfl ?_
    refine z_iconst C 8 dX5_declares_7 rfl ?_
    refine z_goto C 12 dX5_declares_8 (by decide) ?_
    refine z_as (st' := [.int (iI (bI (true)))]) rfl rfl rfl ?_
    exact z_iret C dX5_declares_12 (bI_nar _) (Nat.le_of_ble_eq_true rfl) (Nat.le_of_ble_eq_true rfl) ⟨congrArg (fun b => some (Value.int (iI (bI b)))) (by unfold dcB; simp; omega), rfl⟩
section XV
variable {κ : zK} {own nm : String} {cc : ByteArray} {nL : Nat} {ret : Option FieldType} {rm : Room} {P : Option Value → (Heap → Prop) → Prop} {n k pc : Nat} {lv : List (Nat × Value)} {st rest : List Value}
variable {θ : zTh} {l : Launch} {σ : xA} {w : mW} {Lf : Int → List Int} {M N : zMap} {index : Nat}
theorem xv_number (C : ZC κ own nm cc nL ret rm P) (hκ : κ.1 = θ) (hκl : κ.2.2.1 = l) (hX : xM θ σ w Lf M) (hs : xS w) (hw : mWF w) (hT : zTb θ) (t : Int)   (ht : 0 ≤ t ∧ t < w 0 0)  (q : Nat) (d : decode cc pc = .ok (.invokevirtual index, 3)) (hl : Cond.methodLink own index (⟨"ReflectMirror$Type", "number", "()I"⟩ : MethodName) ∈ lw_all) (hf : 1 ≤ rm.frames) (hlo : 20 ≤ rm.locals) (hce : n ≤ rm.cells) (hsl : k ≤ rm.slots) (hsz : (rest.map fun v => v.category).sum ≤ 8) (hq : pc + 3 = q) (kk : Z κ (zP θ M N) n k q lv (.int (iI (t)) :: rest)) : Z κ (zP θ M N) n k pc lv (.ref (σ 10 t) :: rest) := by
  rcases hs.cls ht.1 ht.2 with ⟨e1, e2, e3⟩ | ⟨e1, e2, e3⟩ | ⟨e1, e2, e3⟩ | ⟨e1, e2, e3⟩
  · refine z_callU (owner := RX2) (As := []) (rest := rest) C hκ hκl q (k2_number hX hs hw hT t   ht) d hl q398 q401 q397 q92 q403 rfl ⟨by decide, by decide, rfl⟩ (Nat.le_trans (Nat.le_of_ble_eq_true rfl) hf) (Nat.le_trans (Nat.le_of_ble_eq_true rfl) hlo) hce hsl (zrec_P (xM.ty3 hX ht.1 ht.2 (by omega))) rfl rfl hsz hq (fun v9 Q9 h9 => ?_)
    obtain ⟨rfl, rfl⟩ := h9
    exact kk
  · refine z_callU (owner := RX2) (As := []) (rest := rest) C hκ hκl q (k2_number hX hs hw hT t   ht) d hl q398 q399 q397 q92 q403 rfl ⟨by decide, by decide, rfl⟩ (Nat.le_trans (Nat.le_of_ble_eq_true rfl) hf) (Nat.le_trans (Nat.le_of_ble_eq_true rfl) hlo) hce hsl (zrec_P (xM.ty4 hX ht.1 ht.2 (by omega))) rfl rfl hsz hq (fun v9 Q9 h9 => ?_)
    obtain ⟨rfl, rfl⟩ := h9
    exact kk
  · refine z_callU (owner := RX2) (As := []) (rest := rest) C hκ hκl q (k2_number hX hs hw hT t   ht) d hl q398 q400 q397 q92 q403 rfl ⟨by decide, by decide, rfl⟩ (Nat.le_trans (Nat.le_of_ble_eq_true rfl) hf) (Nat.le_trans (Nat.le_of_ble_eq_true rfl) hlo) hce hsl (zrec_P (xM.ty5 hX ht.1 ht.2 (by omega))) rfl rfl hsz hq (fun v9 Q9 h9 => ?_)
    obtain ⟨rfl, rfl⟩ := h9
    exact kk
  · refine z_callU (owner := RX2) (As := []) (rest := rest) C hκ hκl q (k2_number hX hs hw hT t   ht) d hl q398 q402 q397 q92 q403 rfl ⟨by decide, by decide, rfl⟩ (Nat.le_trans (Nat.le_of_ble_eq_true rfl) hf) (Nat.le_trans (Nat.le_of_ble_eq_true rfl) hlo) hce hsl (zrec_P (xM.ty8 hX ht.1 ht.2 (by omega))) rfl rfl hsz hq (fun v9 Q9 h9 => ?_)
    obtain ⟨rfl, rfl⟩ := h9
    exact kk
end XV
section XV
variable {κ : zK} {own nm : String} {cc : ByteArray} {nL : Nat} {ret : Option FieldType} {rm : Room} {P : Option Value → (Heap → Prop) → Prop} {n k pc : Nat} {lv : List (Nat × Value)} {st rest : List Value}
variable {θ : zTh} {l : Launch} {σ : xA} {w : mW} {Lf : Int → List Int} {M N : zMap} {index : Nat}
theorem xv_what (C : ZC κ own nm cc nL ret rm P) (hκ : κ.1 = θ) (hκl : κ.2.2.1 = l) (hX : xM θ σ w Lf M) (hs : xS w) (hw : mWF w) (hT : zTb θ) (t : Int)   (ht : 0 ≤ t ∧ t < w 0 0)  (q : Nat) (d : decode cc pc = .ok (.invokevirtual index, 3)) (hl : Cond.methodLink own index (⟨"ReflectMirror$Type", "what", "()I"⟩ : MethodName) ∈ lw_all) (hf : 1 ≤ rm.frames) (hlo : 20 ≤ rm.locals) (hce : n ≤ rm.cells) (hsl : k ≤ rm.slots) (hsz : (rest.map fun v => v.category).sum ≤ 8) (hq : pc + 3 = q) (kk : Z κ (zP θ M N) n k q lv (.int (iI (w 1 t)) :: rest)) : Z κ (zP θ M N) n k pc lv (.ref (σ 10 t) :: rest) := by
  rcases hs.cls ht.1 ht.2 with ⟨e1, e2, e3⟩ | ⟨e1, e2, e3⟩ | ⟨e1, e2, e3⟩ | ⟨e1, e2, e3⟩
  · refine z_callA (owner := RX2) (As := []) (rest := rest) C hκ hκl hT q (k3_what hX hs hw hT t   ht (by omega)) d hl q461 q460 q468 q469 q93 q470 ⟨by decide, by decide, rfl⟩ (Nat.le_trans (Nat.le_of_ble_eq_true rfl) hf) (Nat.le_trans (Nat.le_of_ble_eq_true rfl) hlo) hce hsl (zrec_P (xM.ty3 hX ht.1 ht.2 (by omega))) rfl rfl hsz hq (fun v9 Q9 h9 => ?_)
    obtain ⟨rfl, rfl⟩ := h9
    exact kk
  · refine z_callA (owner := RX2) (As := []) (rest := rest) C hκ hκl hT q (k4_what hX hs hw hT t   ht (by omega)) d hl q461 q460 q462 q463 q94 q464 ⟨by decide, by decide, rfl⟩ (Nat.le_trans (Nat.le_of_ble_eq_true rfl) hf) (Nat.le_trans (Nat.le_of_ble_eq_true rfl) hlo) hce hsl (zrec_P (xM.ty4 hX ht.1 ht.2 (by omega))) rfl rfl hsz hq (fun v9 Q9 h9 => ?_)
    obtain ⟨rfl, rfl⟩ := h9
    exact kk
  · refine z_callA (owner := RX2) (As := []) (rest := rest) C hκ hκl hT q (k5_what hX hs hw hT t   ht (by omega)) d hl q461 q460 q465 q466 q95 q467 ⟨by decide, by decide, rfl⟩ (Nat.le_trans (Nat.le_of_ble_eq_true rfl) hf) (Nat.le_trans (Nat.le_of_ble_eq_true rfl) hlo) hce hsl (zrec_P (xM.ty5 hX ht.1 ht.2 (by omega))) rfl rfl hsz hq (fun v9 Q9 h9 => ?_)
    obtain ⟨rfl, rfl⟩ := h9
    exact kk
  · refine z_callA (owner := RX2) (As := []) (rest := rest) C hκ hκl hT q (k8_what hX hs hw hT t   ht (by omega)) d hl q461 q460 q471 q472 q98 q473 ⟨by decide, by decide, rfl⟩ (Nat.le_trans (Nat.le_of_ble_eq_true rfl) hf) (Nat.le_trans (Nat.le_of_ble_eq_true rfl) hlo) hce hsl (zrec_P (xM.ty8 hX ht.1 ht.2 (by omega))) rfl rfl hsz hq (fun v9 Q9 h9 => ?_)
    obtain ⟨rfl, rfl⟩ := h9
    exact kk
end XV
section XV
variable {κ : zK} {own nm : String} {cc : ByteArray} {nL : Nat} {ret : Option FieldType} {rm : Room} {P : Option Value → (Heap → Prop) → Prop} {n k pc : Nat} {lv : List (Nat × Value)} {st rest : List Value}
variable {θ : zTh} {l : Launch} {σ : xA} {w : mW} {Lf : Int → List Int} {M N : zMap} {index : Nat}
theorem xv_parent (C : ZC κ own nm cc nL ret rm P) (hκ : κ.1 = θ) (hκl : κ.2.2.1 = l) (hX : xM θ σ w Lf M) (hs : xS w) (hw : mWF w) (hT : zTb θ) (t : Int)   (ht : 0 ≤ t ∧ t < w 0 0)  (q : Nat) (d : decode cc pc = .ok (.invokevirtual index, 3)) (hl : Cond.methodLink own index (⟨"ReflectMirror$Type", "parent", "()LReflectMirror$Type;"⟩ : MethodName) ∈ lw_all) (hf : 1 ≤ rm.frames) (hlo : 20 ≤ rm.locals) (hce : n ≤ rm.cells) (hsl : k ≤ rm.slots) (hsz : (rest.map fun v => v.category).sum ≤ 8) (hq : pc + 3 = q) (kk : Z κ (zP θ M N) n k q lv (va_rf (xo σ 10 (w 2 t)) :: rest)) : Z κ (zP θ M N) n k pc lv (.ref (σ 10 t) :: rest) := by
  rcases hs.cls ht.1 ht.2 with ⟨e1, e2, e3⟩ | ⟨e1, e2, e3⟩ | ⟨e1, e2, e3⟩ | ⟨e1, e2, e3⟩
  · refine z_callU (owner := RX2) (As := []) (rest := rest) C hκ hκl q (k2_parent hX hs hw hT t   ht (by omega)) d hl q522 q527 q521 q92 q531 rfl ⟨by decide, by decide, rfl⟩ (Nat.le_trans (Nat.le_of_ble_eq_true rfl) hf) (Nat.le_trans (Nat.le_of_ble_eq_true rfl) hlo) hce hsl (zrec_P (xM.ty3 hX ht.1 ht.2 (by omega))) rfl rfl hsz hq (fun v9 Q9 h9 => ?_)
    obtain ⟨rfl, rfl⟩ := h9
    exact kk
  · refine z_callU (owner := RX2) (As := []) (rest := rest) C hκ hκl q (k2_parent hX hs hw hT t   ht (by omega)) d hl q522 q523 q521 q92 q531 rfl ⟨by decide, by decide, rfl⟩ (Nat.le_trans (Nat.le_of_ble_eq_true rfl) hf) (Nat.le_trans (Nat.le_of_ble_eq_true rfl) hlo) hce hsl (zrec_P (xM.ty4 hX ht.1 ht.2 (by omega))) rfl rfl hsz hq (fun v9 Q9 h9 => ?_)
    obtain ⟨rfl, rfl⟩ := h9
    exact kk
  · refine z_callO (owner := RX2) (As := []) (rest := rest) C hκ hκl q (k5_parent hX hs hw hT t   ht (by omega)) d hl q522 q521 q531 q524 q525 q95 q526 ⟨by decide, by decide, rfl⟩ (Nat.le_trans (Nat.le_of_ble_eq_true rfl) hf) (Nat.le_trans (Nat.le_of_ble_eq_true rfl) hlo) hce hsl (zrec_P (xM.ty5 hX ht.1 ht.2 (by omega))) rfl rfl hsz hq (fun v9 Q9 h9 => ?_)
    obtain ⟨rfl, rfl⟩ := h9
    exact kk
  · refine z_callO (owner := RX2) (As := []) (rest := rest) C hκ hκl q (k8_parent hX hs hw hT t   ht (by omega)) d hl q522 q521 q531 q528 q529 q98 q530 ⟨by decide, by decide, rfl⟩ (Nat.le_trans (Nat.le_of_ble_eq_true rfl) hf) (Nat.le_trans (Nat.le_of_ble_eq_true rfl) hlo) hce hsl (zrec_P (xM.ty8 hX ht.1 ht.2 (by omega))) rfl rfl hsz hq (fun v9 Q9 h9 => ?_)
    obtain ⟨rfl, rfl⟩ := h9
    exact kk
end XV
section XV
variable {κ : zK} {own nm : String} {cc : ByteArray} {nL : Nat} {ret : Option FieldType} {rm : Room} {P : Option Value → (Heap → Prop) → Prop} {n k pc : Nat} {lv : List (Nat × Value)} {st rest : List Value}
variable {θ : zTh} {l : Launch} {σ : xA} {w : mW} {Lf : Int → List Int} {M N : zMap} {index : Nat}
theorem xv_of (C : ZC κ own nm cc nL ret rm P) (hκ : κ.1 = θ) (hκl : κ.2.2.1 = l) (hX : xM θ σ w Lf M) (hs : xS w) (hw : mWF w) (hT : zTb θ) (t : Int)   (ht : 0 ≤ t ∧ t < w 0 0)  (q : Nat) (d : decode cc pc = .ok (.invokevirtual index, 3)) (hl : Cond.methodLink own index (⟨"ReflectMirror$Type", "of", "()LReflectMirror$Type;"⟩ : MethodName) ∈ lw_all) (hf : 1 ≤ rm.frames) (hlo : 20 ≤ rm.locals) (hce : n ≤ rm.cells) (hsl : k ≤ rm.slots) (hsz : (rest.map fun v => v.category).sum ≤ 8) (hq : pc + 3 = q) (kk : Z κ (zP θ M N) n k q lv (va_rf (xo σ 10 (w 4 t)) :: rest)) : Z κ (zP θ M N) n k pc lv (.ref (σ 10 t) :: rest) := by
  rcases hs.cls ht.1 ht.2 with ⟨e1, e2, e3⟩ | ⟨e1, e2, e3⟩ | ⟨e1, e2, e3⟩ | ⟨e1, e2, e3⟩
  · refine z_callU (owner := RX2) (As := []) (rest := rest) C hκ hκl q (k2_of hX hs hw hT t   ht (by omega)) d hl q534 q537 q533 q92 q541 rfl ⟨by decide, by decide, rfl⟩ (Nat.le_trans (Nat.le_of_ble_eq_true rfl) hf) (Nat.le_trans (Nat.le_of_ble_eq_true rfl) hlo) hce hsl (zrec_P (xM.ty3 hX ht.1 ht.2 (by omega))) rfl rfl hsz hq (fun v9 Q9 h9 => ?_)
    obtain ⟨rfl, rfl⟩ := h9
    exact kk
  · refine z_callU (owner := RX2) (As := []) (rest := rest) C hκ hκl q (k2_of hX hs hw hT t   ht (by omega)) d hl q534 q535 q533 q92 q541 rfl ⟨by decide, by decide, rfl⟩ (Nat.le_trans (Nat.le_of_ble_eq_true rfl) hf) (Nat.le_trans (Nat.le_of_ble_eq_true rfl) hlo) hce hsl (zrec_P (xM.ty4 hX ht.1 ht.2 (by omega))) rfl rfl hsz hq (fun v9 Q9 h9 => ?_)
    obtain ⟨rfl, rfl⟩ := h9
    exact kk
  · refine z_callU (owner := RX2) (As := []) (rest := rest) C hκ hκl q (k2_of hX hs hw hT t   ht (by omega)) d hl q534 q536 q533 q92 q541 rfl ⟨by decide, by decide, rfl⟩ (Nat.le_trans (Nat.le_of_ble_eq_true rfl) hf) (Nat.le_trans (Nat.le_of_ble_eq_true rfl) hlo) hce hsl (zrec_P (xM.ty5 hX ht.1 ht.2 (by omega))) rfl rfl hsz hq (fun v9 Q9 h9 => ?_)
    obtain ⟨rfl, rfl⟩ := h9
    exact kk
  · refine z_callO (owner := RX2) (As := []) (rest := rest) C hκ hκl q (k8_of hX hs hw hT t   ht (by omega)) d hl q534 q533 q541 q538 q539 q98 q540 ⟨by decide, by decide, rfl⟩ (Nat.le_trans (Nat.le_of_ble_eq_true rfl) hf) (Nat.le_trans (Nat.le_of_ble_eq_true rfl) hlo) hce hsl (zrec_P (xM.ty8 hX ht.1 ht.2 (by omega))) rfl rfl hsz hq (fun v9 Q9 h9 => ?_)
    obtain ⟨rfl, rfl⟩ := h9
    exact kk
end XV
section XV
variable {κ : zK} {own nm : String} {cc : ByteArray} {nL : Nat} {ret : Option FieldType} {rm : Room} {P : Option Value → (Heap → Prop) → Prop} {n k pc : Nat} {lv : List (Nat × Value)} {st rest : List Value}
variable {θ : zTh} {l : Launch} {σ : xA} {w : mW} {Lf : Int → List Int} {M N : zMap} {index : Nat}
theorem xv_isReference (C : ZC κ own nm cc nL ret rm P) (hκ : κ.1 = θ) (hκl : κ.2.2.1 = l) (hX : xM θ σ w Lf M) (hs : xS w) (hw : mWF w) (hT : zTb θ) (t : Int)   (ht : 0 ≤ t ∧ t < w 0 0)  (q : Nat) (d : decode cc pc = .ok (.invokevirtual index, 3)) (hl : Cond.methodLink own index (⟨"ReflectMirror$Type", "isReference", "()Z"⟩ : MethodName) ∈ lw_all) (hf : 1 ≤ rm.frames) (hlo : 20 ≤ rm.locals) (hce : n ≤ rm.cells) (hsl : k ≤ rm.slots) (hsz : (rest.map fun v => v.category).sum ≤ 8) (hq : pc + 3 = q) (kk : Z κ (zP θ M N) n k q lv (.int (iI (bI (rfB w t))) :: rest)) : Z κ (zP θ M N) n k pc lv (.ref (σ 10 t) :: rest) := by
  rcases hs.cls ht.1 ht.2 with ⟨e1, e2, e3⟩ | ⟨e1, e2, e3⟩ | ⟨e1, e2, e3⟩ | ⟨e1, e2, e3⟩
  · refine z_callO (owner := RX2) (As := []) (rest := rest) C hκ hκl q (k3_isReference hX hs hw hT t   ht (by omega)) d hl q544 q543 q551 q547 q548 q93 q549 ⟨by decide, by decide, rfl⟩ (Nat.le_trans (Nat.le_of_ble_eq_true rfl) hf) (Nat.le_trans (Nat.le_of_ble_eq_true rfl) hlo) hce hsl (zrec_P (xM.ty3 hX ht.1 ht.2 (by omega))) rfl rfl hsz hq (fun v9 Q9 h9 => ?_)
    obtain ⟨rfl, rfl⟩ := h9
    exact kk
  · refine z_callU (owner := RX2) (As := []) (rest := rest) C hκ hκl q (k2_isReference hX hs hw hT t   ht (by omega)) d hl q544 q545 q543 q92 q551 rfl ⟨by decide, by decide, rfl⟩ (Nat.le_trans (Nat.le_of_ble_eq_true rfl) hf) (Nat.le_trans (Nat.le_of_ble_eq_true rfl) hlo) hce hsl (zrec_P (xM.ty4 hX ht.1 ht.2 (by omega))) rfl rfl hsz hq (fun v9 Q9 h9 => ?_)
    obtain ⟨rfl, rfl⟩ := h9
    exact kk
  · refine z_callU (owner := RX2) (As := []) (rest := rest) C hκ hκl q (k2_isReference hX hs hw hT t   ht (by omega)) d hl q544 q546 q543 q92 q551 rfl ⟨by decide, by decide, rfl⟩ (Nat.le_trans (Nat.le_of_ble_eq_true rfl) hf) (Nat.le_trans (Nat.le_of_ble_eq_true rfl) hlo) hce hsl (zrec_P (xM.ty5 hX ht.1 ht.2 (by omega))) rfl rfl hsz hq (fun v9 Q9 h9 => ?_)
    obtain ⟨rfl, rfl⟩ := h9
    exact kk
  · refine z_callU (owner := RX2) (As := []) (rest := rest) C hκ hκl q (k2_isReference hX hs hw hT t   ht (by omega)) d hl q544 q550 q543 q92 q551 rfl ⟨by decide, by decide, rfl⟩ (Nat.le_trans (Nat.le_of_ble_eq_true rfl) hf) (Nat.le_trans (Nat.le_of_ble_eq_true rfl) hlo) hce hsl (zrec_P (xM.ty8 hX ht.1 ht.2 (by omega))) rfl rfl hsz hq (fun v9 Q9 h9 => ?_)
    obtain ⟨rfl, rfl⟩ := h9
    exact kk
end XV
section XV
variable {κ : zK} {own nm : String} {cc : ByteArray} {nL : Nat} {ret : Option FieldType} {rm : Room} {P : Option Value → (Heap → Prop) → Prop} {n k pc : Nat} {lv : List (Nat × Value)} {st rest : List Value}
variable {θ : zTh} {l : Launch} {σ : xA} {w : mW} {Lf : Int → List Int} {M N : zMap} {index : Nat}
theorem xv_isClass (C : ZC κ own nm cc nL ret rm P) (hκ : κ.1 = θ) (hκl : κ.2.2.1 = l) (hX : xM θ σ w Lf M) (hs : xS w) (hw : mWF w) (hT : zTb θ) (t : Int)   (ht : 0 ≤ t ∧ t < w 0 0)  (q : Nat) (d : decode cc pc = .ok (.invokevirtual index, 3)) (hl : Cond.methodLink own index (⟨"ReflectMirror$Type", "isClass", "()Z"⟩ : MethodName) ∈ lw_all) (hf : 1 ≤ rm.frames) (hlo : 20 ≤ rm.locals) (hce : n ≤ rm.cells) (hsl : k ≤ rm.slots) (hsz : (rest.map fun v => v.category).sum ≤ 8) (hq : pc + 3 = q) (kk : Z κ (zP θ M N) n k q lv (.int (iI (bI (clB w t))) :: rest)) : Z κ (zP θ M N) n k pc lv (.ref (σ 10 t) :: rest) := by
  rcases hs.cls ht.1 ht.2 with ⟨e1, e2, e3⟩ | ⟨e1, e2, e3⟩ | ⟨e1, e2, e3⟩ | ⟨e1, e2, e3⟩
  · refine z_callU (owner := RX2) (As := []) (rest := rest) C hκ hκl q (k2_isClass hX hs hw hT t   ht (by omega)) d hl q383 q388 q382 q92 q390 rfl ⟨by decide, by decide, rfl⟩ (Nat.le_trans (Nat.le_of_ble_eq_true rfl) hf) (Nat.le_trans (Nat.le_of_ble_eq_true rfl) hlo) hce hsl (zrec_P (xM.ty3 hX ht.1 ht.2 (by omega))) rfl rfl hsz hq (fun v9 Q9 h9 => ?_)
    obtain ⟨rfl, rfl⟩ := h9
    exact kk
  · refine z_callU (owner := RX2) (As := []) (rest := rest) C hκ hκl q (k2_isClass hX hs hw hT t   ht (by omega)) d hl q383 q384 q382 q92 q390 rfl ⟨by decide, by decide, rfl⟩ (Nat.le_trans (Nat.le_of_ble_eq_true rfl) hf) (Nat.le_trans (Nat.le_of_ble_eq_true rfl) hlo) hce hsl (zrec_P (xM.ty4 hX ht.1 ht.2 (by omega))) rfl rfl hsz hq (fun v9 Q9 h9 => ?_)
    obtain ⟨rfl, rfl⟩ := h9
    exact kk
  · refine z_callO (owner := RX2) (As := []) (rest := rest) C hκ hκl q (k5_isClass hX hs hw hT t   ht (by omega)) d hl q383 q382 q390 q385 q386 q95 q387 ⟨by decide, by decide, rfl⟩ (Nat.le_trans (Nat.le_of_ble_eq_true rfl) hf) (Nat.le_trans (Nat.le_of_ble_eq_true rfl) hlo) hce hsl (zrec_P (xM.ty5 hX ht.1 ht.2 (by omega))) rfl rfl hsz hq (fun v9 Q9 h9 => ?_)
    obtain ⟨rfl, rfl⟩ := h9
    exact kk
  · refine z_callU (owner := RX2) (As := []) (rest := rest) C hκ hκl q (k2_isClass hX hs hw hT t   ht (by omega)) d hl q383 q389 q382 q92 q390 rfl ⟨by decide, by decide, rfl⟩ (Nat.le_trans (Nat.le_of_ble_eq_true rfl) hf) (Nat.le_trans (Nat.le_of_ble_eq_true rfl) hlo) hce hsl (zrec_P (xM.ty8 hX ht.1 ht.2 (by omega))) rfl rfl hsz hq (fun v9 Q9 h9 => ?_)
    obtain ⟨rfl, rfl⟩ := h9
    exact kk
end XV
section XV
variable {κ : zK} {own nm : String} {cc : ByteArray} {nL : Nat} {ret : Option FieldType} {rm : Room} {P : Option Value → (Heap → Prop) → Prop} {n k pc : Nat} {lv : List (Nat × Value)} {st rest : List Value}
variable {θ : zTh} {l : Launch} {σ : xA} {w : mW} {Lf : Int → List Int} {M N : zMap} {index : Nat}
theorem xv_declares (C : ZC κ own nm cc nL ret rm P) (hκ : κ.1 = θ) (hκl : κ.2.2.1 = l) (hX : xM θ σ w Lf M) (hs : xS w) (hw : mWF w) (hT : zTb θ) (t : Int)   (ht : 0 ≤ t ∧ t < w 0 0)  (q : Nat) (d : decode cc pc = .ok (.invokevirtual index, 3)) (hl : Cond.methodLink own index (⟨"ReflectMirror$Type", "declares", "()Z"⟩ : MethodName) ∈ lw_all) (hf : 1 ≤ rm.frames) (hlo : 20 ≤ rm.locals) (hce : n ≤ rm.cells) (hsl : k ≤ rm.slots) (hsz : (rest.map fun v => v.category).sum ≤ 8) (hq : pc + 3 = q) (kk : Z κ (zP θ M N) n k q lv (.int (iI (bI (dcB w t))) :: rest)) : Z κ (zP θ M N) n k pc lv (.ref (σ 10 t) :: rest) := by
  rcases hs.cls ht.1 ht.2 with ⟨e1, e2, e3⟩ | ⟨e1, e2, e3⟩ | ⟨e1, e2, e3⟩ | ⟨e1, e2, e3⟩
  · refine z_callU (owner := RX2) (As := []) (rest := rest) C hκ hκl q (k2_declares hX hs hw hT t   ht (by omega)) d hl q449 q456 q448 q92 q458 rfl ⟨by decide, by decide, rfl⟩ (Nat.le_trans (Nat.le_of_ble_eq_true rfl) hf) (Nat.le_trans (Nat.le_of_ble_eq_true rfl) hlo) hce hsl (zrec_P (xM.ty3 hX ht.1 ht.2 (by omega))) rfl rfl hsz hq (fun v9 Q9 h9 => ?_)
    obtain ⟨rfl, rfl⟩ := h9
    exact kk
  · refine z_callO (owner := RX2) (As := []) (rest := rest) C hκ hκl q (k4_declares hX hs hw hT t   ht (by omega)) d hl q449 q448 q458 q450 q451 q94 q452 ⟨by decide, by decide, rfl⟩ (Nat.le_trans (Nat.le_of_ble_eq_true rfl) hf) (Nat.le_trans (Nat.le_of_ble_eq_true rfl) hlo) hce hsl (zrec_P (xM.ty4 hX ht.1 ht.2 (by omega))) rfl rfl hsz hq (fun v9 Q9 h9 => ?_)
    obtain ⟨rfl, rfl⟩ := h9
    exact kk
  · refine z_callO (owner := RX2) (As := []) (rest := rest) C hκ hκl q (k5_declares hX hs hw hT t   ht (by omega)) d hl q449 q448 q458 q453 q454 q95 q455 ⟨by decide, by decide, rfl⟩ (Nat.le_trans (Nat.le_of_ble_eq_true rfl) hf) (Nat.le_trans (Nat.le_of_ble_eq_true rfl) hlo) hce hsl (zrec_P (xM.ty5 hX ht.1 ht.2 (by omega))) rfl rfl hsz hq (fun v9 Q9 h9 => ?_)
    obtain ⟨rfl, rfl⟩ := h9
    exact kk
  · refine z_callU (owner := RX2) (As := []) (rest := rest) C hκ hκl q (k2_declares hX hs hw hT t   ht (by omega)) d hl q449 q457 q448 q92 q458 rfl ⟨by decide, by decide, rfl⟩ (Nat.le_trans (Nat.le_of_ble_eq_true rfl) hf) (Nat.le_trans (Nat.le_of_ble_eq_true rfl) hlo) hce hsl (zrec_P (xM.ty8 hX ht.1 ht.2 (by omega))) rfl rfl hsz hq (fun v9 Q9 h9 => ?_)
    obtain ⟨rfl, rfl⟩ := h9
    exact kk
end XV
set_option maxRecDepth 100000 in
theorem k9_number {l : Launch} {θ : zTh} {σ : xA} {w : mW} {Lf : Int → List Int} {M N : zMap} (hX : xM θ σ w (Lf) M) (hs : xS w) (hw : mWF w) (hT : zTb θ) (m : Int)  (hm : 0 ≤ m ∧ m < w 11 0) : ZM θ l yX9_number cX9_number 1 (some .int) ⟨0, 0, 0, 0⟩ [.ref (σ 20 (m))] (zP θ M N) (zFn (some (.int (iI (m)))) (zP θ M N)) := by
  refine z_start (own := RX9) (nm := "number") pnX9 rfl rfl (Nat.le_of_ble_eq_true rfl) ?_
  intro κ hκ hκl C
  change Z κ (zP θ M N) 0 0 0 [(0, .ref (σ 20 (m)))] []
  have hS := hs.S
  have hB := hS.B
  obtain ⟨hB1, hB2, hB3, hB4, hB5, hB6⟩ := hS.B
  have hC := hS.C
  obtain ⟨h81, h82⟩ := hs.r8
  obtain ⟨f1a, f1b, f1c, f1d⟩ := hS.M (show 0 ≤ m by omega) (by omega)
  refine z_aload_n C 1 0 dX9_number_0 rfl rfl ?_
  refine z_getf C hκ (v := .int (iI (m))) 4 0 zk_X9 (hX.mem (by omega) (by omega)) (by decide) q653 (Or.inl rfl) rfl dX9_number_1 rfl ?_
  exact z_iret C dX9_number_4 rfl (Nat.le_of_ble_eq_true rfl) (Nat.le_of_ble_eq_true rfl) ⟨congrArg (fun z => some (Value.int (iI z))) (rfl), rfl⟩
set_option maxRecDepth 100000 in
theorem k9_who {l : Launch} {θ : zTh} {σ : xA} {w : mW} {Lf : Int → List Int} {M N : zMap} (hX : xM θ σ w (Lf) M) (hs : xS w) (hw : mWF w) (hT : zTb θ) (m : Int)  (hm : 0 ≤ m ∧ m < w 11 0) : ZM θ l yX9_who cX9_who 1 (some .int) ⟨0, 0, 0, 0⟩ [.ref (σ 20 (m))] (zP θ M N) (zFn (some (.int (iI (whoI w m)))) (zP θ M N)) := by
  refine z_start (own := RX9) (nm := "who") pnX9 rfl rfl (Nat.le_of_ble_eq_true rfl) ?_
  intro κ hκ hκl C
  change Z κ (zP θ M N) 0 0 0 [(0, .ref (σ 20 (m)))] []
  have hS := hs.S
  have hB := hS.B
  obtain ⟨hB1, hB2, hB3, hB4, hB5, hB6⟩ := hS.B
  have hC := hS.C
  obtain ⟨h81, h82⟩ := hs.r8
  obtain ⟨f1a, f1b, f1c, f1d⟩ := hS.M (show 0 ≤ m by omega) (by omega)
  refine z_aload_n C 1 0 dX9_who_0 rfl rfl ?_
  refine z_getf C hκ (v := .int (iI (w 15 (m)))) 4 3 zk_X9 (hX.mem (by omega) (by omega)) (by decide) q661 (Or.inl rfl) rfl dX9_who_1 rfl ?_
  refine z_iconst C 5 dX9_who_4 rfl ?_
  refine z_iand C 6 dX9_who_5 rfl ?_
  exact z_iret C dX9_who_6 rfl (Nat.le_of_ble_eq_true rfl) (Nat.le_of_ble_eq_true rfl) ⟨congrArg (fun z => some (Value.int (iI z))) (rfl), rfl⟩
set_option maxRecDepth 100000 in
theorem k9_has {l : Launch} {θ : zTh} {σ : xA} {w : mW} {Lf : Int → List Int} {M N : zMap} (hX : xM θ σ w (Lf) M) (hs : xS w) (hw : mWF w) (hT : zTb θ) (m : Int) (k : Int) (r_k : inR k) (hm : 0 ≤ m ∧ m < w 11 0) : ZM θ l yX9_has cX9_has 2 (some .boolean) ⟨0, 0, 0, 0⟩ [.ref (σ 20 (m)), .int (iI (k))] (zP θ M N) (zFn (some (.int (iI (bI (hasB w m k))))) (zP θ M N)) := by
  refine z_start (own := RX9) (nm := "has") pnX9 rfl rfl (Nat.le_of_ble_eq_true rfl) ?_
  intro κ hκ hκl C
  change Z κ (zP θ M N) 0 0 0 [(0, .ref (σ 20 (m))), (1, .int (iI (k)))] []
  have hS := hs.S
  have hB := hS.B
  obtain ⟨hB1, hB2, hB3, hB4, hB5, hB6⟩ := hS.B
  have hC := hS.C
  obtain ⟨h81, h82⟩ := hs.r8
  obtain ⟨f1a, f1b, f1c, f1d⟩ := hS.M (show 0 ≤ m by omega) (by omega)
  refine z_aload_n C 1 0 dX9_has_0 rfl rfl ?_
  refine z_getf C hκ (v := .int (iI (w 15 (m)))) 4 3 zk_X9 (hX.mem (by omega) (by omega)) (by decide) q661 (Or.inl rfl) rfl dX9_has_1 rfl ?_
  refine z_iload_n C 5 1 dX9_has_4 rfl rfl ?_
  refine z_iand C 6 dX9_has_5 rfl ?_
  refine z_if_eq C 13 9 dX9_has_6 (by decide) (inR_zand _ _) rfl (fun c2 => ?_) (fun c2 => ?_)
  · skip
    refine z_iconst C 14 dX9_has_13 rfl ?_
    refine z_as (st' := [.int (iI (bI (false)))]) rfl rfl rfl ?_
    exact z_iret C dX9_has_14 (bI_nar _) (Nat.le_of_ble_eq_true rfl) (Nat.le_of_ble_eq_true rfl) ⟨congrArg (fun b => some (Value.int (iI (bI b)))) (by clear C hκ hκl hS hB hB1 hB2 hB3 hB4 hB5 hB6 hC hw hX hs hT h81 h82 f1a f1b f1c f1d; first | (simp_all [hasB]; done) | (simp_all [hasB] <;> omega) | (grind [hasB]) | (simp [hasB] at * <;> omega)), rfl⟩
  · skip
    refine z_iconst C 10 dX9_has_9 rfl ?_
    refine z_goto C 14 dX9_has_10 (by decide) ?_
    refine z_as (st' := [.int (iI (bI (true)))]) rfl rfl rfl ?_
    exact z_iret C dX9_has_14 (bI_nar _) (Nat.le_of_ble_eq_true rfl) (Nat.le_of_ble_eq_true rfl) ⟨congrArg (fun b => some (Value.int (iI (bI b)))) (by clear C hκ hκl hS hB hB1 hB2 hB3 hB4 hB5 hB6 hC hw hX hs hT h81 h82 f1a f1b f1c f1d; first | (simp_all [hasB]; done) | (simp_all [hasB] <;> omega) | (grind [hasB]) | (simp [hasB] at * <;> omega)), rfl⟩
set_option maxRecDepth 100000 in
theorem k9_isPrivate {l : Launch} {θ : zTh} {σ : xA} {w : mW} {Lf : Int → List Int} {M N : zMap} (hX : xM θ σ w (Lf) M) (hs : xS w) (hw : mWF w) (hT : zTb θ) (m : Int)  (hm : 0 ≤ m ∧ m < w 11 0) : ZM θ l yX9_isPrivate cX9_isPrivate 1 (some .boolean) ⟨1, 0, 0, 20⟩ [.ref (σ 20 (m))] (zP θ M N) (zFn (some (.int (iI (bI (prB w m))))) (zP θ M N)) := by
  refine z_start (own := RX9) (nm := "isPrivate") pnX9 rfl rfl (Nat.le_of_ble_eq_true rfl) ?_
  intro κ hκ hκl C
  change Z κ (zP θ M N) 0 0 0 [(0, .ref (σ 20 (m)))] []
  have hS := hs.S
  have hB := hS.B
  obtain ⟨hB1, hB2, hB3, hB4, hB5, hB6⟩ := hS.B
  have hC := hS.C
  obtain ⟨h81, h82⟩ := hs.r8
  obtain ⟨f1a, f1b, f1c, f1d⟩ := hS.M (show 0 ≤ m by omega) (by omega)
  refine z_aload_n C 1 0 dX9_isPrivate_0 rfl rfl ?_
  refine z_callV (As := []) (rest := []) C hκ hκl 4 (k9_who hX hs hw hT (m) ⟨by omega, by omega⟩) dX9_isPrivate_1 q1041 q955 q956 q103 q957 znX9_who (Nat.le_of_ble_eq_true rfl) (Nat.le_of_ble_eq_true rfl) (Nat.le_of_ble_eq_true rfl) (Nat.le_of_ble_eq_true rfl) (zrec_P (hX.mem (by omega) (by omega))) rfl rfl (Nat.le_of_ble_eq_true rfl) rfl (fun v9 Q9 h9 => ?_)
  obtain ⟨rfl, rfl⟩ := h9
  refine z_as (st' := [.int (iI (whoI w (m)))]) rfl rfl rfl ?_
  refine z_iconst C 5 dX9_isPrivate_4 rfl ?_
  refine z_icmp_ne C 12 8 dX9_isPrivate_5 (by decide) (inR_zand _ _) ⟨by decide, by decide⟩ rfl (fun c2 => ?_) (fun c2 => ?_)
  · skip
    refine z_iconst C 13 dX9_isPrivate_12 rfl ?_
    refine z_as (st' := [.int (iI (bI (false)))]) rfl rfl rfl ?_
    exact z_iret C dX9_isPrivate_13 (bI_nar _) (Nat.le_of_ble_eq_true rfl) (Nat.le_of_ble_eq_true rfl) ⟨congrArg (fun b => some (Value.int (iI (bI b)))) (by clear C hκ hκl hS hB hB1 hB2 hB3 hB4 hB5 hB6 hC hw hX hs hT h81 h82 f1a f1b f1c f1d; first | (simp_all [prB]; done) | (simp_all [prB] <;> omega) | (grind [prB]) | (simp [prB] at * <;> omega)), rfl⟩
  · skip
    refine z_iconst C 9 dX9_isPrivate_8 rfl ?_
    refine z_goto C 13 dX9_isPrivate_9 (by decide) ?_
    refine z_as (st' := [.int (iI (bI (true)))]) rfl rfl rfl ?_
    exact z_iret C dX9_isPrivate_13 (bI_nar _) (Nat.le_of_ble_eq_true rfl) (Nat.le_of_ble_eq_true rfl) ⟨congrArg (fun b => some (Value.int (iI (bI b)))) (by clear C hκ hκl hS hB hB1 hB2 hB3 hB4 hB5 hB6 hC hw hX hs hT h81 h82 f1a f1b f1c f1d; first | (simp_all [prB]; done) | (simp_all [prB] <;> omega) | (grind [prB]) | (simp [prB] at * <;> omega)), rfl⟩
set_option maxRecDepth 100000 in
theorem k9_isMet {l : Launch} {θ : zTh} {σ : xA} {w : mW} {Lf : Int → List Int} {M N : zMap} (hX : xM θ σ w (Lf) M) (hs : xS w) (hw : mWF w) (hT : zTb θ) (m : Int)  (hm : 0 ≤ m ∧ m < w 11 0) : ZM θ l yX9_isMet cX9_isMet 1 (some .boolean) ⟨2, 0, 0, 40⟩ [.ref (σ 20 (m))] (zP θ M N) (zFn (some (.int (iI (bI (!hasB w m 4 && !prB w m))))) (zP θ M N)) := by
  refine z_start (own := RX9) (nm := "isMet") pnX9 rfl rfl (Nat.le_of_ble_eq_true rfl) ?_
  intro κ hκ hκl C
  change Z κ (zP θ M N) 0 0 0 [(0, .ref (σ 20 (m)))] []
  have hS := hs.S
  have hB := hS.B
  obtain ⟨hB1, hB2, hB3, hB4, hB5, hB6⟩ := hS.B
  have hC := hS.C
  obtain ⟨h81, h82⟩ := hs.r8
  obtain ⟨f1a, f1b, f1c, f1d⟩ := hS.M (show 0 ≤ m by omega) (by omega)
  refine z_aload_n C 1 0 dX9_isMet_0 rfl rfl ?_
  refine z_iconst C 2 dX9_isMet_1 rfl ?_
  refine z_callV (As := [.int (iI (4))]) (rest := []) C hκ hκl 5 (k9_has hX hs hw hT (m) (4) ⟨by decide, by decide⟩ ⟨by omega, by omega⟩) dX9_isMet_2 q1036 q712 q713 q103 q714 znX9_has (Nat.le_of_ble_eq_true rfl) (Nat.le_of_ble_eq_true rfl) (Nat.le_of_ble_eq_true rfl) (Nat.le_of_ble_eq_true rfl) (zrec_P (hX.mem (by omega) (by omega))) rfl rfl (Nat.le_of_ble_eq_true rfl) rfl (fun v9 Q9 h9 => ?_)
  obtain ⟨rfl, rfl⟩ := h9
  refine z_as (st' := [.int (iI (bI (hasB w (m) (4))))]) rfl rfl rfl ?_
  refine z_ifB_ne C 19 8 dX9_isMet_5 (by decide) rfl (fun c2 => ?_) (fun c2 => ?_)
  · skip
    refine z_iconst C 20 dX9_isMet_19 rfl ?_
    refine z_as (st' := [.int (iI (bI (false)))]) rfl rfl rfl ?_
    exact z_iret C dX9_isMet_20 (bI_nar _) (Nat.le_of_ble_eq_true rfl) (Nat.le_of_ble_eq_true rfl) ⟨congrArg (fun b => some (Value.int (iI (bI b)))) (by clear C hκ hκl hS hB hB1 hB2 hB3 hB4 hB5 hB6 hC hw hX hs hT h81 h82 f1a f1b f1c f1d; first | (simp_all []; done) | (simp_all [] <;> omega) | (grind []) | (simp [] at * <;> omega)), rfl⟩
  · skip
    refine z_aload_n C 9 0 dX9_isMet_8 rfl rfl ?_
    refine z_callV (As := []) (rest := []) C hκ hκl 12 (k9_isPrivate hX hs hw hT (m) ⟨by omega, by omega⟩) dX9_isMet_9 q1037 q1038 q1039 q103 q1040 znX9_isPrivate (Nat.le_of_ble_eq_true rfl) (Nat.le_of_ble_eq_true rfl) (Nat.le_of_ble_eq_true rfl) (Nat.le_of_ble_eq_true rfl) (zrec_P (hX.mem (by omega) (by omega))) rfl rfl (Nat.le_of_ble_eq_true rfl) rfl (fun v9 Q9 h9 => ?_)
    obtain ⟨rfl, rfl⟩ := h9
    refine z_as (st' := [.int (iI (bI (prB w (m))))]) rfl rfl rfl ?_
    refine z_ifB_ne C 19 15 dX9_isMet_12 (by decide) rfl (fun c3 => ?_) (fun c3 => ?_)
    · skip
      have c3b : (whoI w (m) = 2) := of_decide_eq_true c3
      refine z_iconst C 20 dX9_isMet_19 rfl ?_
      refine z_as (st' := [.int (iI (bI (false)))]) rfl rfl rfl ?_
      exact z_iret C dX9_isMet_20 (bI_nar _) (Nat.le_of_ble_eq_true rfl) (Nat.le_of_ble_eq_true rfl) ⟨congrArg (fun b => some (Value.int (iI (bI b)))) (by clear C hκ hκl hS hB hB1 hB2 hB3 hB4 hB5 hB6 hC hw hX hs hT h81 h82 f1a f1b f1c f1d; first | (simp_all []; done) | (simp_all [] <;> omega) | (grind []) | (simp [] at * <;> omega)), rfl⟩
    · skip
      have c3b : ¬ (whoI w (m) = 2) := of_decide_eq_false c3
      refine z_iconst C 16 dX9_isMet_15 rfl ?_
      refine z_goto C 20 dX9_isMet_16 (by decide) ?_
      refine z_as (st' := [.int (iI (bI (true)))]) rfl rfl rfl ?_
      exact z_iret C dX9_isMet_20 (bI_nar _) (Nat.le_of_ble_eq_true rfl) (Nat.le_of_ble_eq_true rfl) ⟨congrArg (fun b => some (Value.int (iI (bI b)))) (by clear C hκ hκl hS hB hB1 hB2 hB3 hB4 hB5 hB6 hC hw hX hs hT h81 h82 f1a f1b f1c f1d; first | (simp_all []; done) | (simp_all [] <;> omega) | (grind []) | (simp [] at * <;> omega)), rfl⟩
set_option maxRecDepth 100000 in
theorem k23_number {l : Launch} {θ : zTh} {σ : xA} {w : mW} {Lf : Int → List Int} {M N : zMap} (hX : xM θ σ w (Lf) M) (hs : xS w) (hw : mWF w) (hT : zTb θ) (x : Int)  (hx : 0 ≤ x ∧ x < w 27 0) : ZM θ l yX23_number cX23_number 1 (some .int) ⟨0, 0, 0, 0⟩ [.ref (σ 30 (x))] (zP θ M N) (zFn (some (.int (iI (x)))) (zP θ M N)) := by
  refine z_start (own := RX23) (nm := "number") pnX23 rfl rfl (Nat.le_of_ble_eq_true rfl) ?_
  intro κ hκ hκl C
  change Z κ (zP θ M N) 0 0 0 [(0, .ref (σ 30 (x)))] []
  have hS := hs.S
  have hB := hS.B
  obtain ⟨hB1, hB2, hB3, hB4, hB5, hB6⟩ := hS.B
  have hC := hS.C
  obtain ⟨h81, h82⟩ := hs.r8
  refine z_aload_n C 1 0 dX23_number_0 rfl rfl ?_
  obtain ⟨f1a, f1b, f1c⟩ := hS.X (show 0 ≤ x by omega) (by omega)
  refine x_pget (v := .int (iI (x))) C hκ 4 0 hX (by omega) (by omega) (by decide) rfl q1271 (Or.inl rfl) rfl dX23_number_1 rfl ?_
  exact z_iret C dX23_number_4 rfl (Nat.le_of_ble_eq_true rfl) (Nat.le_of_ble_eq_true rfl) ⟨congrArg (fun z => some (Value.int (iI z))) (rfl), rfl⟩
set_option maxRecDepth 100000 in
theorem k0_told {l : Launch} {θ : zTh} {σ : xA} {w : mW} {Lf : Int → List Int} {M N : zMap} (hX : xM θ σ w (Lf) M) (hs : xS w) (hw : mWF w) (hT : zTb θ) (m : Int)  (hm : -1 ≤ m ∧ m < w 11 0) : ZM θ l yX0_told cX0_told 1 (some .int) ⟨1, 0, 0, 20⟩ [va_rf (xo σ 20 (m))] (zP θ M N) (zFn (some (.int (iI (m)))) (zP θ M N)) := by
  refine z_start (own := RX0) (nm := "told") pnX0 rfl rfl (by cases (xo σ 20 (m)) <;> exact Nat.le_of_ble_eq_true rfl) ?_
  intro κ hκ hκl C
  refine z_as (lv' := [(0, va_rf (xo σ 20 (m)))]) rfl (by cases (xo σ 20 (m)) <;> rfl) rfl ?_
  change Z κ (zP θ M N) 0 0 0 [(0, va_rf (xo σ 20 (m)))] []
  have hS := hs.S
  have hB := hS.B
  obtain ⟨hB1, hB2, hB3, hB4, hB5, hB6⟩ := hS.B
  have hC := hS.C
  obtain ⟨h81, h82⟩ := hs.r8
  refine z_aload_nq C 1 0 dX0_told_0 rfl rfl ?_
  rcases Int.lt_or_le (m) 0 with n1 | n1
  · skip
    rw [xo_n n1]
    refine z_as (st' := [.null]) (lv' := [(0, .null)]) rfl rfl rfl ?_
    refine z_ifnonnullN C 4 dX0_told_1 rfl ?_
    refine z_iconst C 5 dX0_told_4 rfl ?_
    refine z_goto C 12 dX0_told_5 (by decide) ?_
    exact z_iret C dX0_told_12 rfl (Nat.le_of_ble_eq_true rfl) (Nat.le_of_ble_eq_true rfl) ⟨congrArg (fun z => some (Value.int (iI z))) (by clear C hκ hκl hS hB hB1 hB2 hB3 hB4 hB5 hB6 hC hw hX hs hT h81 h82; omega), rfl⟩
  · skip
    rw [xo_y n1]
    refine z_as (st' := [.ref (σ 20 (m))]) (lv' := [(0, .ref (σ 20 (m)))]) rfl rfl rfl ?_
    refine z_ifnonnull C 8 dX0_told_1 (by decide) ?_
    refine z_aload_n C 9 0 dX0_told_8 rfl rfl ?_
    refine z_callV (As := []) (rest := []) C hκ hκl 12 (k9_number hX hs hw hT (m) ⟨by omega, by omega⟩) dX0_told_9 q738 q500 q2572 q103 q502 znX9_number (Nat.le_of_ble_eq_true rfl) (Nat.le_of_ble_eq_true rfl) (Nat.le_of_ble_eq_true rfl) (Nat.le_of_ble_eq_true rfl) (zrec_P (hX.mem (by omega) (by omega))) rfl rfl (Nat.le_of_ble_eq_true rfl) rfl (fun v9 Q9 h9 => ?_)
    obtain ⟨rfl, rfl⟩ := h9
    refine z_as (st' := [.int (iI ((m)))]) rfl rfl rfl ?_
    exact z_iret C dX0_told_12 rfl (Nat.le_of_ble_eq_true rfl) (Nat.le_of_ble_eq_true rfl) ⟨congrArg (fun z => some (Value.int (iI z))) (by clear C hκ hκl hS hB hB1 hB2 hB3 hB4 hB5 hB6 hC hw hX hs hT h81 h82; omega), rfl⟩
set_option maxRecDepth 100000 in
theorem k0_thingAt {l : Launch} {θ : zTh} {σ : xA} {w : mW} {Lf : Int → List Int} {M N : zMap} (hX : xM θ σ w (Lf) M) (hs : xS w) (hw : mWF w) (hT : zTb θ) (x : Int) (r_x : inR x) (hx : -1 ≤ x ∧ x < w 27 0) : ZM θ l yX0_thingAt cX0_thingAt 2 (some (.object "ReflectMirror$Thing")) ⟨0, 0, 0, 0⟩ [.ref (σ 0 (0)), .int (iI (x))] (zP θ M N) (zFn (some (va_rf (xo σ 30 (x)))) (zP θ M N)) := by
  refine z_start (own := RX0) (nm := "thingAt") pnX0 rfl rfl (Nat.le_of_ble_eq_true rfl) ?_
  intro κ hκ hκl C
  change Z κ (zP θ M N) 0 0 0 [(0, .ref (σ 0 (0))), (1, .int (iI (x)))] []
  have hS := hs.S
  have hB := hS.B
  obtain ⟨hB1, hB2, hB3, hB4, hB5, hB6⟩ := hS.B
  have hC := hS.C
  obtain ⟨h81, h82⟩ := hs.r8
  refine z_iload_n C 1 1 dX0_thingAt_0 rfl rfl ?_
  refine z_iconst C 2 dX0_thingAt_1 rfl ?_
  refine z_icmp_ne C 9 5 dX0_thingAt_2 (by decide) r_x ⟨by decide, by decide⟩ rfl (fun c1 => ?_) (fun c1 => ?_)
  · skip
    refine z_aload_n C 10 0 dX0_thingAt_9 rfl rfl ?_
    refine z_getf C hκ (v := .ref (σ 3 (0))) 13 5 zk_X0 hX.o (by decide) q332 (Or.inl rfl) rfl dX0_thingAt_10 rfl ?_
    refine z_iload_n C 14 1 dX0_thingAt_13 rfl rfl ?_
    refine x_aX C hκ 15 hX hs (by omega) (by omega) dX0_thingAt_14 rfl ?_
    obtain ⟨f2a, f2b, f2c⟩ := hS.X (show 0 ≤ x by omega) (by omega)
    exact z_aret C dX0_thingAt_15 (Or.inl ⟨_, rfl⟩) (Or.inr ⟨_, rfl⟩) (Nat.le_of_ble_eq_true rfl) (Nat.le_of_ble_eq_true rfl) ⟨congrArg some (by rw [xo_y (by omega)]; rfl), rfl⟩
  · skip
    refine z_null C 6 dX0_thingAt_5 rfl ?_
    refine z_goto C 15 dX0_thingAt_6 (by decide) ?_
    exact z_aret C dX0_thingAt_15 (Or.inl ⟨_, rfl⟩) (Or.inl rfl) (Nat.le_of_ble_eq_true rfl) (Nat.le_of_ble_eq_true rfl) ⟨congrArg some (by rw [xo_n (by omega)]; rfl), rfl⟩
