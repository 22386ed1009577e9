/-! ===== the class's own rows: what the tables say beside the words that ride along ===== -/
def zEx : List String := ["ReflectMirror$Refusal", "java/lang/NullPointerException", "java/lang/IllegalArgumentException", "java/lang/ArrayIndexOutOfBoundsException", "java/lang/ArrayStoreException", "java/lang/NegativeArraySizeException", "java/lang/ClassCastException"]
def zHd : List String := ["ReflectMirror$Refusal", "java/lang/NullPointerException", "java/lang/IllegalArgumentException", "java/lang/IndexOutOfBoundsException", "java/lang/ArrayStoreException", "java/lang/NegativeArraySizeException", "java/lang/ClassCastException"]
/-- pairs of classes of which none is the other -/
def zNc : List (String × String) := [("ReflectMirror$One", "ReflectMirror$Many"), ("ReflectMirror$Many", "ReflectMirror$One"), ("[Z", "[LReflectMirror$Thing;"), ("[C", "[LReflectMirror$Thing;"), ("[B", "[LReflectMirror$Thing;"), ("[S", "[LReflectMirror$Thing;"), ("[I", "[LReflectMirror$Thing;"), ("[J", "[LReflectMirror$Thing;"), ("[F", "[LReflectMirror$Thing;"), ("[D", "[LReflectMirror$Thing;")] ++ (zEx.flatMap fun a => zHd.filterMap fun b => if a = b ∨ (a = "java/lang/ArrayIndexOutOfBoundsException" ∧ b = "java/lang/IndexOutOfBoundsException") then none else some (a, b))
/-- what the start says of the tables -/
def zTb (θ : zTh) : Prop := (∀ w ∈ lw_tbl, w.onTables = true → va_Nw w θ.2.2) ∧ (∀ q ∈ zNc, va_Nc q.1 q.2 θ.2.2) ∧ va_Nw (.castable "[LReflectMirror$One;" "[LReflectMirror$Thing;") θ.2.2 ∧ va_Nw (.castable "[LReflectMirror$Many;" "[LReflectMirror$Thing;") θ.2.2 ∧ ∀ C : String, Cond.arrayOver (.object C) ∈ lw_tbl → va_AO C θ.2.2
theorem zTb.cast {θ : zTh} {s : State} (h : zTb θ) (hU : zU θ s) {C T : String} (hw : Cond.castable C T ∈ lw_tbl) : va_Nw (.castable C T) s := va_Nw.warmC hU.1 (h.1 _ hw rfl)
theorem zTb.mlink {θ : zTh} {s : State} (h : zTb θ) (hU : zU θ s) {a : String} {i : Nat} {x : MethodName} {b : String} (hw : Cond.methodLinkNest a i x b ∈ lw_tbl) : va_Nw (.methodLinkNest a i x b) s := va_Nw.warmM hU.1 (h.1 _ hw rfl)
theorem zTb.flink {θ : zTh} {s : State} (h : zTb θ) (hU : zU θ s) {a : String} {i : Nat} {b n d x : String} (hw : Cond.fieldLinkNest a i b n d x ∈ lw_tbl) : va_Nw (.fieldLinkNest a i b n d x) s := va_Nw.warmF hU.1 (h.1 _ hw rfl)
theorem zTb.decl {θ : zTh} {s : State} (h : zTb θ) (hU : zU θ s) {x : MethodName} (hw : Cond.declares x ∈ lw_tbl) : va_Nw (.declares x) s := va_Nw.warmD hU.1 (h.1 _ hw rfl)
theorem zTb.over {θ : zTh} {s : State} (h : zTb θ) (hU : zU θ s) {C : String} (hw : Cond.arrayOver (.object C) ∈ lw_tbl) : va_AO C s := va_AO.moved hU.1.alike (h.2.2.2.2 C hw)
theorem zTb.no {θ : zTh} {s : State} (h : zTb θ) (hU : zU θ s) {C T : String} (hw : (C, T) ∈ zNc) : va_Nc C T s := va_Nc.moved hU.1.alike (h.2.1 _ hw)
theorem x_wsU {own owner C : String} {idx : Nat} {x y : MethodName} {b : ByteArray} {L : Nat} {r : Option FieldType} (h1 : Cond.methodLink own idx x ∈ lw_all) (h2 : Cond.sameMethod x.cls owner x.name x.desc ∈ lw_all) (h3 : Cond.selects C x y ∈ lw_all) (h4 : Cond.instanceMethod y ∈ lw_all) (h5 : Cond.initialized y.cls ∈ lw_all) (h6 : Cond.code y b L r ∈ lw_all) : GoodIn lw_all (va_wsU own idx C owner x y (ws_ y b L r)) := by
  refine lw_app (fun w hw => ?_) (lw_meth h6)
  simp only [List.mem_cons, List.not_mem_nil, or_false] at hw
  rcases hw with rfl | rfl | rfl | rfl | rfl <;> assumption
theorem x_wsO {own owner C : String} {idx : Nat} {x y : MethodName} {b : ByteArray} {L : Nat} {r : Option FieldType} (h1 : Cond.methodLink own idx x ∈ lw_all) (h2 : Cond.sameMethod x.cls owner x.name x.desc ∈ lw_all) (h7 : Cond.instanceMethod ⟨owner, x.name, x.desc⟩ ∈ lw_all) (h3 : Cond.selects C x y ∈ lw_all) (h4 : Cond.instanceMethod y ∈ lw_all) (h5 : Cond.initialized y.cls ∈ lw_all) (h6 : Cond.code y b L r ∈ lw_all) : GoodIn lw_all (va_wsO own idx C owner x y (ws_ y b L r)) := by
  refine lw_app (fun w hw => ?_) (lw_meth h6)
  simp only [List.mem_cons, List.not_mem_nil, or_false] at hw
  rcases hw with rfl | rfl | rfl | rfl | rfl | rfl <;> assumption
theorem x_wsSU {own : String} {idx : Nat} {y : MethodName} {b : ByteArray} {L : Nat} {r : Option FieldType} (h1 : Cond.methodLink own idx y ∈ lw_all) (h2 : Cond.sameMethod y.cls y.cls y.name y.desc ∈ lw_all) (h3 : Cond.superclass own y.cls ∈ lw_all) (h4 : Cond.instanceMethod y ∈ lw_all) (h5 : Cond.initialized y.cls ∈ lw_all) (h6 : Cond.code y b L r ∈ lw_all) : GoodIn lw_all (va_wsSU own idx y (ws_ y b L r)) := by
  refine lw_app (fun w hw => ?_) (lw_meth h6)
  simp only [List.mem_cons, List.not_mem_nil, or_false] at hw
  rcases hw with rfl | rfl | rfl | rfl | rfl <;> assumption
abbrev zNd (x : MethodName) (owner : String) (n : Nat) : Prop := owner ≠ "java/lang/invoke/MethodHandle" ∧ owner ≠ "java/lang/invoke/VarHandle" ∧ (parseMethodDescriptor x.desc).map (fun d => d.parameters.length) = some n
section XCallRows
variable {κ : zK} {own nm : String} {cc : ByteArray} {nL : Nat} {ret : Option FieldType} {rm : Room} {P : Option Value → (Heap → Prop) → Prop} {Pic : Heap → Prop} {n k pc : Nat} {lv : List (Nat × Value)} {st rest : List Value}
variable {θ : zTh} {l : Launch} {x y : MethodName} {cc' : ByteArray} {nL' idx : Nat} {ret' : Option FieldType} {rm' : Room} {As : List Value} {P' : Option Value → (Heap → Prop) → Prop} {Cn owner : String}
theorem z_callU (C : ZC κ own nm cc nL ret rm P) (hκ : κ.1 = θ) (hκl : κ.2.2.1 = l) {ci b N9 : Nat} {T : u_T} (q : Nat) (hM : ZM θ l y cc' nL' ret' rm' (.ref b :: As) Pic P') (d : decode cc pc = .ok (.invokevirtual idx, 3)) (h1 : Cond.methodLink own idx x ∈ lw_all) (h2 : Cond.sameMethod x.cls owner x.name x.desc ∈ lw_all) (h3 : Cond.selects Cn x y ∈ lw_all) (h4 : Cond.instanceMethod y ∈ lw_all) (h5 : Cond.initialized y.cls ∈ lw_all) (h6 : Cond.code y cc' nL' ret' ∈ lw_all) (hyx : y = ⟨owner, x.name, x.desc⟩) (hd : zNd x owner As.length)
    (hf : rm'.frames + 1 ≤ rm.frames) (hlo : 8 + (nL' + 11) + rm'.locals ≤ rm.locals) (hce : n + rm'.cells ≤ rm.cells) (hsl : k + rm'.slots ≤ rm.slots) (hr : zrec θ ci b Pic) (hc : zCl[ci]? = some (Cn, T, N9)) (hst : st = As.reverse ++ .ref b :: rest) (hsz : (rest.map fun v => v.category).sum ≤ 8) (hq : pc + 3 = q)
    (kk : ∀ (v : Option Value) (Pic1 : Heap → Prop), P' v Pic1 → Z κ Pic1 (n + rm'.cells) (k + rm'.slots) q lv (v.toList ++ rest)) : Z κ Pic n k pc lv st := by
  subst hq; subst hst; subst hκ; subst hκl
  obtain ⟨θ, p, l, e, R, s, m, args, below, meth, c, Q⟩ := κ
  obtain ⟨hx, hb, hml, hown, hts, hU, hlk, hret, hnm, rfl, hQ⟩ := C
  intro H locs ls hP hS hl
  refine z_run (va_runU (As := As) (rest := rest) ⟨hx, hb, hml, hown, hts⟩ hM (va_cwU As.length hts (x_wsU h1 h2 h3 h4 h5 h6) rfl rfl rfl hyx hd ⟨hf, hlo⟩) ⟨zPc_blind, zrec_cell hr hc hU hP, fun U hU' hW => ⟨rfl, by rw [hU']; exact hP, hU.on hS hU' hW⟩⟩ rfl rfl (by rw [← hml]; exact hl.1) rfl (lv_room hsz) d ⟨hce, hsl⟩) hS hl kk
theorem z_callO (C : ZC κ own nm cc nL ret rm P) (hκ : κ.1 = θ) (hκl : κ.2.2.1 = l) {ci b N9 : Nat} {T : u_T} (q : Nat) (hM : ZM θ l y cc' nL' ret' rm' (.ref b :: As) Pic P') (d : decode cc pc = .ok (.invokevirtual idx, 3)) {b0 : ByteArray} {m0 : Nat} {r0 : Option FieldType} (h1 : Cond.methodLink own idx x ∈ lw_all) (h2 : Cond.sameMethod x.cls owner x.name x.desc ∈ lw_all) (h7 : Cond.instanceMethod ⟨owner, x.name, x.desc⟩ ∈ lw_all) (h8 : Cond.code ⟨owner, x.name, x.desc⟩ b0 m0 r0 ∈ lw_all) (h3 : Cond.selects Cn x y ∈ lw_all) (h4 : Cond.instanceMethod y ∈ lw_all) (h5 : Cond.initialized y.cls ∈ lw_all) (h6 : Cond.code y cc' nL' ret' ∈ lw_all) (hd : zNd x owner As.length)
    (hf : rm'.frames + 1 ≤ rm.frames) (hlo : 8 + (nL' + 11) + rm'.locals ≤ rm.locals) (hce : n + rm'.cells ≤ rm.cells) (hsl : k + rm'.slots ≤ rm.slots) (hr : zrec θ ci b Pic) (hc : zCl[ci]? = some (Cn, T, N9)) (hst : st = As.reverse ++ .ref b :: rest) (hsz : (rest.map fun v => v.category).sum ≤ 8) (hq : pc + 3 = q)
    (kk : ∀ (v : Option Value) (Pic1 : Heap → Prop), P' v Pic1 → Z κ Pic1 (n + rm'.cells) (k + rm'.slots) q lv (v.toList ++ rest)) : Z κ Pic n k pc lv st := by
  subst hq; subst hst; subst hκ; subst hκl
  obtain ⟨θ, p, l, e, R, s, m, args, below, meth, c, Q⟩ := κ
  obtain ⟨hx, hb, hml, hown, hts, hU, hlk, hret, hnm, rfl, hQ⟩ := C
  intro H locs ls hP hS hl
  refine z_run (va_runU (As := As) (rest := rest) ⟨hx, hb, hml, hown, hts⟩ hM (va_cwO As.length hts (x_wsO h1 h2 h7 h3 h4 h5 h6) rfl rfl rfl h8 hd ⟨hf, hlo⟩) ⟨zPc_blind, zrec_cell hr hc hU hP, fun U hU' hW => ⟨rfl, by rw [hU']; exact hP, hU.on hS hU' hW⟩⟩ rfl rfl (by rw [← hml]; exact hl.1) rfl (lv_room hsz) d ⟨hce, hsl⟩) hS hl kk
theorem z_callA (C : ZC κ own nm cc nL ret rm P) (hκ : κ.1 = θ) (hκl : κ.2.2.1 = l) {ci b N9 : Nat} {T : u_T} (hT : zTb θ) (q : Nat) (hM : ZM θ l y cc' nL' ret' rm' (.ref b :: As) Pic P') (d : decode cc pc = .ok (.invokevirtual idx, 3)) (h1 : Cond.methodLink own idx x ∈ lw_all) (h2 : Cond.sameMethod x.cls owner x.name x.desc ∈ lw_all) (h8 : Cond.declares ⟨owner, x.name, x.desc⟩ ∈ lw_tbl) (h3 : Cond.selects Cn x y ∈ lw_all) (h4 : Cond.instanceMethod y ∈ lw_all) (h5 : Cond.initialized y.cls ∈ lw_all) (h6 : Cond.code y cc' nL' ret' ∈ lw_all) (hd : zNd x owner As.length)
    (hf : rm'.frames + 1 ≤ rm.frames) (hlo : 8 + (nL' + 11) + rm'.locals ≤ rm.locals) (hce : n + rm'.cells ≤ rm.cells) (hsl : k + rm'.slots ≤ rm.slots) (hr : zrec θ ci b Pic) (hc : zCl[ci]? = some (Cn, T, N9)) (hst : st = As.reverse ++ .ref b :: rest) (hsz : (rest.map fun v => v.category).sum ≤ 8) (hq : pc + 3 = q)
    (kk : ∀ (v : Option Value) (Pic1 : Heap → Prop), P' v Pic1 → Z κ Pic1 (n + rm'.cells) (k + rm'.slots) q lv (v.toList ++ rest)) : Z κ Pic n k pc lv st := by
  subst hq; subst hst; subst hκ; subst hκl
  obtain ⟨θ, p, l, e, R, s, m, args, below, meth, c, Q⟩ := κ
  obtain ⟨hx, hb, hml, hown, hts, hU, hlk, hret, hnm, rfl, hQ⟩ := C
  intro H locs ls hP hS hl
  refine z_run (va_runU (As := As) (rest := rest) ⟨hx, hb, hml, hown, hts⟩ hM (va_cwA As.length hts (x_wsU h1 h2 h3 h4 h5 h6) rfl rfl rfl (hT.decl hU h8) hd ⟨hf, hlo⟩) ⟨zPc_blind, zrec_cell hr hc hU hP, fun U hU' hW => ⟨rfl, by rw [hU']; exact hP, hU.on hS hU' hW⟩⟩ rfl rfl (by rw [← hml]; exact hl.1) rfl (lv_room hsz) d ⟨hce, hsl⟩) hS hl kk
theorem z_callSU (C : ZC κ own nm cc nL ret rm P) (hκ : κ.1 = θ) (hκl : κ.2.2.1 = l) {ci b N9 : Nat} {T : u_T} (q : Nat) (hM : ZM θ l y cc' nL' ret' rm' (.ref b :: As) Pic P') (d : decode cc pc = .ok (.invokespecial idx, 3)) (h1 : Cond.methodLink own idx y ∈ lw_all) (h2 : Cond.sameMethod y.cls y.cls y.name y.desc ∈ lw_all) (h3 : Cond.superclass own y.cls ∈ lw_all) (h4 : Cond.instanceMethod y ∈ lw_all) (h5 : Cond.initialized y.cls ∈ lw_all) (h6 : Cond.code y cc' nL' ret' ∈ lw_all) (hd : y.name ≠ "<init>" ∧ (parseMethodDescriptor y.desc).map (fun d => d.parameters.length) = some As.length)
    (hf : rm'.frames + 1 ≤ rm.frames) (hlo : 8 + (nL' + 11) + rm'.locals ≤ rm.locals) (hce : n + rm'.cells ≤ rm.cells) (hsl : k + rm'.slots ≤ rm.slots) (hr : zrec θ ci b Pic) (hc : zCl[ci]? = some (Cn, T, N9)) (hst : st = As.reverse ++ .ref b :: rest) (hsz : (rest.map fun v => v.category).sum ≤ 8) (hq : pc + 3 = q)
    (kk : ∀ (v : Option Value) (Pic1 : Heap → Prop), P' v Pic1 → Z κ Pic1 (n + rm'.cells) (k + rm'.slots) q lv (v.toList ++ rest)) : Z κ Pic n k pc lv st := by
  subst hq; subst hst; subst hκ; subst hκl
  obtain ⟨θ, p, l, e, R, s, m, args, below, meth, c, Q⟩ := κ
  obtain ⟨hx, hb, hml, hown, hts, hU, hlk, hret, hnm, rfl, hQ⟩ := C
  intro H locs ls hP hS hl
  refine z_run (va_runSU (As := As) (rest := rest) (hU.2.2.2.1 ci _ hc).2 ⟨hx, hb, hml, hown, hts⟩ hM (va_cwSU As.length hts (x_wsSU h1 h2 h3 h4 h5 h6) rfl rfl rfl hd ⟨hf, hlo⟩) ⟨zPc_blind, zrec_cell hr hc hU hP, fun U hU' hW => ⟨rfl, by rw [hU']; exact hP, hU.on hS hU' hW⟩⟩ rfl rfl (by rw [← hml]; exact hl.1) rfl (lv_room hsz) d ⟨hce, hsl⟩) hS hl kk
theorem z_callVN (C : ZC κ own nm cc nL ret rm P) (hκ : κ.1 = θ) (hκl : κ.2.2.1 = l) {ci b N9 : Nat} {T : u_T} {host : String} (hT : zTb θ) (q : Nat) (hM : ZM θ l y cc' nL' ret' rm' (.ref b :: As) Pic P') (d : decode cc pc = .ok (.invokevirtual idx, 3)) (h1 : Cond.methodLinkNest own idx y host ∈ lw_tbl) (h2 : Cond.instanceMethod y ∈ lw_all) (h3 : Cond.selects Cn y y ∈ lw_all) (h5 : Cond.initialized y.cls ∈ lw_all) (h6 : Cond.code y cc' nL' ret' ∈ lw_all) (hd : zNd y y.cls As.length)
    (hf : rm'.frames + 1 ≤ rm.frames) (hlo : 8 + (nL' + 11) + rm'.locals ≤ rm.locals) (hce : n + rm'.cells ≤ rm.cells) (hsl : k + rm'.slots ≤ rm.slots) (hr : zrec θ ci b Pic) (hc : zCl[ci]? = some (Cn, T, N9)) (hst : st = As.reverse ++ .ref b :: rest) (hsz : (rest.map fun v => v.category).sum ≤ 8) (hq : pc + 3 = q)
    (kk : ∀ (v : Option Value) (Pic1 : Heap → Prop), P' v Pic1 → Z κ Pic1 (n + rm'.cells) (k + rm'.slots) q lv (v.toList ++ rest)) : Z κ Pic n k pc lv st := by
  subst hq; subst hst; subst hκ; subst hκl
  obtain ⟨θ, p, l, e, R, s, m, args, below, meth, c, Q⟩ := κ
  obtain ⟨hx, hb, hml, hown, hts, hU, hlk, hret, hnm, rfl, hQ⟩ := C
  intro H locs ls hP hS hl
  refine z_run (va_runVN (As := As) (rest := rest) ⟨hx, hb, hml, hown, hts⟩ hM ⟨va_cnB As.length hts (lw_meth h6) rfl rfl rfl (hT.mlink hU h1) (hts _ h5) hd ⟨hf, hlo⟩, hts _ h2, hts _ h3⟩ ⟨zPc_blind, zrec_cell hr hc hU hP, fun U hU' hW => ⟨rfl, by rw [hU']; exact hP, hU.on hS hU' hW⟩⟩ rfl rfl (by rw [← hml]; exact hl.1) rfl (lv_room hsz) d ⟨hce, hsl⟩) hS hl kk
theorem z_callIN (C : ZC κ own nm cc nL ret rm P) (hκ : κ.1 = θ) (hκl : κ.2.2.1 = l) {b : Nat} {host : String} (hT : zTb θ) (q : Nat) (hM : ZM θ l y cc' nL' none rm' (.ref b :: As) Pic P') (d : decode cc pc = .ok (.invokespecial idx, 3)) (h1 : Cond.methodLinkNest own idx y host ∈ lw_tbl) (h2 : Cond.instanceMethod y ∈ lw_all) (h5 : Cond.initialized y.cls ∈ lw_all) (h6 : Cond.code y cc' nL' none ∈ lw_all) (hd : zNd y y.cls As.length) (hin : y.name = "<init>")
    (hf : rm'.frames + 1 ≤ rm.frames) (hlo : 8 + (nL' + 11) + rm'.locals ≤ rm.locals) (hce : n + rm'.cells ≤ rm.cells) (hsl : k + rm'.slots ≤ rm.slots) (hst : st = As.reverse ++ .ref b :: rest) (hsz : (rest.map fun v => v.category).sum ≤ 8) (hq : pc + 3 = q)
    (kk : ∀ (v : Option Value) (Pic1 : Heap → Prop), P' v Pic1 → Z κ Pic1 (n + rm'.cells) (k + rm'.slots) q lv (v.toList ++ rest)) : Z κ Pic n k pc lv st := by
  subst hq; subst hst; subst hκ; subst hκl
  obtain ⟨θ, p, l, e, R, s, m, args, below, meth, c, Q⟩ := κ
  obtain ⟨hx, hb, hml, hown, hts, hU, hlk, hret, hnm, rfl, hQ⟩ := C
  intro H locs ls hP hS hl
  refine z_run (va_runIN (As := As) (rest := rest) ⟨hx, hb, hml, hown, hts⟩ hM ⟨va_cnB As.length hts (lw_meth h6) rfl rfl rfl (hT.mlink hU h1) (hts _ h5) hd ⟨hf, hlo⟩, hin, hts _ h2⟩ ⟨zPc_blind, fun U hU' hW => ⟨rfl, by rw [hU']; exact hP, hU.on hS hU' hW⟩⟩ rfl rfl (by rw [← hml]; exact hl.1) rfl (lv_room hsz) d ⟨hce, hsl⟩) hS hl kk
theorem z_callSN (C : ZC κ own nm cc nL ret rm P) (hκ : κ.1 = θ) (hκl : κ.2.2.1 = l) {host : String} (hT : zTb θ) (q : Nat) (hM : ZM θ l y cc' nL' ret' rm' As Pic P') (d : decode cc pc = .ok (.invokestatic idx, 3)) (h1 : Cond.methodLinkNest own idx y host ∈ lw_tbl) (h2 : Cond.static y ∈ lw_all) (h5 : Cond.initialized y.cls ∈ lw_all) (h6 : Cond.code y cc' nL' ret' ∈ lw_all) (hd : zNd y y.cls As.length)
    (hf : rm'.frames + 1 ≤ rm.frames) (hlo : 8 + (nL' + 11) + rm'.locals ≤ rm.locals) (hce : n + rm'.cells ≤ rm.cells) (hsl : k + rm'.slots ≤ rm.slots) (hst : st = As.reverse ++ rest) (hsz : (rest.map fun v => v.category).sum ≤ 8) (hq : pc + 3 = q)
    (kk : ∀ (v : Option Value) (Pic1 : Heap → Prop), P' v Pic1 → Z κ Pic1 (n + rm'.cells) (k + rm'.slots) q lv (v.toList ++ rest)) : Z κ Pic n k pc lv st := by
  subst hq; subst hst; subst hκ; subst hκl
  obtain ⟨θ, p, l, e, R, s, m, args, below, meth, c, Q⟩ := κ
  obtain ⟨hx, hb, hml, hown, hts, hU, hlk, hret, hnm, rfl, hQ⟩ := C
  intro H locs ls hP hS hl
  refine z_run (va_runSN (As := As) (rest := rest) ⟨hx, hb, hml, hown, hts⟩ hM ⟨va_cnB As.length hts (lw_meth h6) rfl rfl rfl (hT.mlink hU h1) (hts _ h5) hd ⟨hf, hlo⟩, hts _ h2, trivial⟩ ⟨zPc_blind, fun U hU' hW => ⟨rfl, by rw [hU']; exact hP, hU.on hS hU' hW⟩⟩ rfl rfl (by rw [← hml]; exact hl.1) rfl (lv_room hsz) d ⟨hce, hsl⟩) hS hl kk
end XCallRows
section XHeap
variable {κ : zK} {own nm : String} {cc : ByteArray} {nL : Nat} {ret : Option FieldType} {rm : Room} {P : Option Value → (Heap → Prop) → Prop} {n k pc : Nat} {lv : List (Nat × Value)} {st rest : List Value}
variable {θ : zTh} {M N : zMap} {a ci index N9 : Nat} {ref Cn : String} {T : u_T} {ty0 : Nat → FieldType} {fs : List Value}
theorem z_getfN (C : ZC κ own nm cc nL ret rm P) (hκ : κ.1 = θ) (hT : zTb θ) {host : String} {v : Value} (q kf : Nat) (h9 : zcls ci Cn T N9 ty0) (hM : M a = some (.inr (ci, fs))) (hk : kf < N9) (hlink : Cond.fieldLinkNest own index ref (T kf).2.1 (T kf).2.2.1 host ∈ lw_tbl) (hsame : ref = (T kf).1 ∨ Cond.sameField ref (T kf).1 (T kf).2.1 (T kf).2.2.1 ∈ lw_all) (hv : fs[kf]? = some v) (d : decode cc pc = .ok (.getfield index, 3)) (hq : pc + 3 = q) (kk : Z κ (zP θ M N) n k q lv (v :: rest)) : Z κ (zP θ M N) n k pc lv (.ref a :: rest) := by
  obtain ⟨θ', p, l, e, R, s, m, args, below, meth, c, Q⟩ := κ
  obtain ⟨hx, hb, hml, hown, hts, hU, hlk, hret, hnm, hR, hQ⟩ := C
  have hκ : θ' = θ := hκ
  subst hκ
  have hK := hU.2.2.2
  subst hq
  intro H locs ls hP hS hl
  obtain ⟨ws, w1, w2, w3⟩ := hP.ws
  obtain ⟨q0, hq0⟩ := w3.2.1 a _ hM
  exact va_getN hx hb hts h9.2.1 hown hK w1 q0 hq0 h9.1 kf hk (va_Nw.use rfl (hT.flink hU hlink)) (fun x hx => hsame.elim (fun h => by rw [h]; exact hx) (fun h => u_same (hts _ h) x hx)) hv d (kk H locs ls hP hS hl)
/-- an object into a row of references of its own class -/
theorem z_qast (C : ZC κ own nm cc nL ret rm P) (hκ : κ.1 = θ) {cA : ClassId} {E : String} {len v : Nat} {f f' : Nat → Option Nat} {vs : List Value} {X : Int} (q t0 : Nat) (hM : M a = some (.inl (cA, len, .inr (.inr (.inr (.inr f)))))) (ht : (zTys θ)[t0]? = some (cA, .object E)) (hv : M v = some (.inr (ci, vs))) (hc : zCl[ci]? = some (E, T, N9)) (h0 : 0 ≤ X) (h1 : X < (len : Int)) (h2 : len ≤ 2147483647) (hf : va_up f X.toNat (some v) = f') (d : decode cc pc = .ok (.aastore, 1)) (hq : pc + 1 = q) (kk : Z κ (zP θ (zup M a (.inl (cA, len, .inr (.inr (.inr (.inr f')))))) N) n k q lv rest) : Z κ (zP θ M N) n k pc lv (.ref v :: .int (iI X) :: .ref a :: rest) := by
  obtain ⟨θ', p, l, e, R, s, m, args, below, meth, c, Q⟩ := κ
  obtain ⟨hx, hb, hml, hown, hts, hU, hlk, hret, hnm, hR, hQ⟩ := C
  have hκ : θ' = θ := hκ
  subst hκ
  have hK := hU.2.2.2
  subst hq; subst hf
  intro H locs ls hP hS hl
  obtain ⟨ws, w1, w2, w3⟩ := hP.ws
  obtain ⟨q0, hq0⟩ := w3.2.1 a _ hM
  obtain ⟨qv, hqv⟩ := w3.2.1 v _ hv
  obtain ⟨i1, i2⟩ := zin_of h0 h1 h2
  refine va_astq (r := (E, T, N9)) hx hb hK w1 w2 hS q0 t0 qv ci hq0 ht hqv hc i1 d (fun H1 locs1 g1 g2 g3 => ?_)
  rw [i2] at g1
  exact kk H1 locs1 ls (zL.set hP w2 w3 hM hq0 g1) g3 hl
/-- .. of a class above -/
theorem z_qastO (C : ZC κ own nm cc nL ret rm P) (hκ : κ.1 = θ) (hT : zTb θ) {cA : ClassId} {E : String} {len v : Nat} {f f' : Nat → Option Nat} {vs : List Value} {X : Int} (q t0 : Nat) (hM : M a = some (.inl (cA, len, .inr (.inr (.inr (.inr f)))))) (ht : (zTys θ)[t0]? = some (cA, .object E)) (hv : M v = some (.inr (ci, vs))) (hc : zCl[ci]? = some (Cn, T, N9)) (hca : Cond.castable Cn E ∈ lw_tbl) (h0 : 0 ≤ X) (h1 : X < (len : Int)) (h2 : len ≤ 2147483647) (hf : va_up f X.toNat (some v) = f') (d : decode cc pc = .ok (.aastore, 1)) (hq : pc + 1 = q) (kk : Z κ (zP θ (zup M a (.inl (cA, len, .inr (.inr (.inr (.inr f')))))) N) n k q lv rest) : Z κ (zP θ M N) n k pc lv (.ref v :: .int (iI X) :: .ref a :: rest) := by
  obtain ⟨θ', p, l, e, R, s, m, args, below, meth, c, Q⟩ := κ
  obtain ⟨hx, hb, hml, hown, hts, hU, hlk, hret, hnm, hR, hQ⟩ := C
  have hκ : θ' = θ := hκ
  subst hκ
  have hK := hU.2.2.2
  subst hq; subst hf
  intro H locs ls hP hS hl
  obtain ⟨ws, w1, w2, w3⟩ := hP.ws
  obtain ⟨q0, hq0⟩ := w3.2.1 a _ hM
  obtain ⟨qv, hqv⟩ := w3.2.1 v _ hv
  obtain ⟨i1, i2⟩ := zin_of h0 h1 h2
  refine va_astqO (r := (Cn, T, N9)) hx hb hK w1 w2 hS q0 t0 qv ci hq0 ht (hT.cast hU hca) hqv hc i1 d (fun H1 locs1 g1 g2 g3 => ?_)
  rw [i2] at g1
  exact kk H1 locs1 ls (zL.set hP w2 w3 hM hq0 g1) g3 hl
theorem z_qastN (C : ZC κ own nm cc nL ret rm P) (hκ : κ.1 = θ) {cA : ClassId} {E : String} {len : Nat} {f f' : Nat → Option Nat} {X : Int} (q t0 : Nat) (hM : M a = some (.inl (cA, len, .inr (.inr (.inr (.inr f)))))) (ht : (zTys θ)[t0]? = some (cA, .object E)) (h0 : 0 ≤ X) (h1 : X < (len : Int)) (h2 : len ≤ 2147483647) (hf : va_up f X.toNat none = f') (d : decode cc pc = .ok (.aastore, 1)) (hq : pc + 1 = q) (kk : Z κ (zP θ (zup M a (.inl (cA, len, .inr (.inr (.inr (.inr f')))))) N) n k q lv rest) : Z κ (zP θ M N) n k pc lv (.null :: .int (iI X) :: .ref a :: rest) := by
  obtain ⟨θ', p, l, e, R, s, m, args, below, meth, c, Q⟩ := κ
  obtain ⟨hx, hb, hml, hown, hts, hU, hlk, hret, hnm, hR, hQ⟩ := C
  have hκ : θ' = θ := hκ
  subst hκ
  have hK := hU.2.2.2
  subst hq; subst hf
  intro H locs ls hP hS hl
  obtain ⟨ws, w1, w2, w3⟩ := hP.ws
  obtain ⟨q0, hq0⟩ := w3.2.1 a _ hM
  obtain ⟨i1, i2⟩ := zin_of h0 h1 h2
  refine va_astqN hx hb hK w1 w2 hS q0 t0 hq0 ht i1 d (fun H1 locs1 g1 g2 g3 => ?_)
  rw [i2] at g1
  exact kk H1 locs1 ls (zL.set hP w2 w3 hM hq0 g1) g3 hl
/-- a row into a row of Objects -/
theorem z_qastA (C : ZC κ own nm cc nL ret rm P) (hκ : κ.1 = θ) (hT : zTb θ) {cA cB : ClassId} {Bn : String} {tyB : FieldType} {yB : vp_A} {len v : Nat} {f f' : Nat → Option Nat} {X : Int} (q t0 t1 : Nat) (hM : M a = some (.inl (cA, len, .inr (.inr (.inr (.inr f)))))) (ht : (zTys θ)[t0]? = some (cA, .object "java/lang/Object")) (hv : M v = some (.inl (cB, yB))) (ht1 : (zTys θ)[t1]? = some (cB, tyB)) (hB : "[" ++ tyB.toString = Bn) (hca : Cond.castable Bn "java/lang/Object" ∈ lw_tbl) (h0 : 0 ≤ X) (h1 : X < (len : Int)) (h2 : len ≤ 2147483647) (hf : va_up f X.toNat (some v) = f') (d : decode cc pc = .ok (.aastore, 1)) (hq : pc + 1 = q) (kk : Z κ (zP θ (zup M a (.inl (cA, len, .inr (.inr (.inr (.inr f')))))) N) n k q lv rest) : Z κ (zP θ M N) n k pc lv (.ref v :: .int (iI X) :: .ref a :: rest) := by
  obtain ⟨θ', p, l, e, R, s, m, args, below, meth, c, Q⟩ := κ
  obtain ⟨hx, hb, hml, hown, hts, hU, hlk, hret, hnm, hR, hQ⟩ := C
  have hκ : θ' = θ := hκ
  subst hκ
  have hK := hU.2.2.2
  subst hq; subst hf; subst hB
  intro H locs ls hP hS hl
  obtain ⟨ws, w1, w2, w3⟩ := hP.ws
  obtain ⟨q0, hq0⟩ := w3.2.1 a _ hM
  obtain ⟨qv, hqv⟩ := w3.2.1 v _ hv
  obtain ⟨i1, i2⟩ := zin_of h0 h1 h2
  have hfc : s.vm.findClass ("[" ++ tyB.toString) = some cB := by
    have h := (hK.2 t1 _ ht1).2
    cases tyB with
    | object C => obtain ⟨_, _, _, _, _, h4⟩ := h; exact h4
    | _ => exact h
  have hcell : ∃ cellV : Cell, H[v]? = some cellV ∧ cellV.vm.isStatics = false ∧ s.vm.findClass ("[" ++ tyB.toString) = some cellV.cls := by
    have hw := w1 qv _ hqv
    refine ⟨vp_cell cB yB, hw, ?_, ?_⟩
    · obtain ⟨n, f | f | f | f | f⟩ := yB <;> rfl
    · rw [hfc]; obtain ⟨n, f | f | f | f | f⟩ := yB <;> rfl
  refine vb_astq (E := "java/lang/Object") (C := "[" ++ tyB.toString) hx hb hK w1 w2 hS q0 t0 hq0 ht hcell (vb_asgC (hT.cast hU hca)) i1 d (fun H1 locs1 g1 g2 g3 => ?_)
  rw [i2] at g1
  exact kk H1 locs1 ls (zL.set hP w2 w3 hM hq0 g1) g3 hl
theorem z_anew (C : ZC κ own nm cc nL ret rm P) (hκ : κ.1 = θ) (hT : zTb θ) {E : String} {cA : ClassId} {X : Int} (q len t0 : Nat) (ht : (zTys θ)[t0]? = some (cA, .object E)) (hX : X = (len : Int)) (hlen : len ≤ 1000000) (hcl : Cond.classLink own index E ∈ lw_all) (hov : Cond.arrayOver (.object E) ∈ lw_tbl) (hce : n + 1 ≤ rm.cells) (hsl : k + len ≤ rm.slots) (d : decode cc pc = .ok (.anewarray index, 3)) (hq : pc + 3 = q) (kk : ∀ a : Nat, M a = none → N a = none → Z κ (zP θ (zup M a (.inl (cA, len, .inr (.inr (.inr (.inr (fun _ => none))))))) N) (n + 1) (k + len) q lv (.ref a :: rest)) : Z κ (zP θ M N) n k pc lv (.int (iI X) :: rest) := by
  obtain ⟨θ', p, l, e, R, s, m, args, below, meth, c, Q⟩ := κ
  obtain ⟨hx, hb, hml, hown, hts, hU, hlk, hret, hnm, hR, hQ⟩ := C
  have hκ : θ' = θ := hκ
  subst hκ
  have hK := hU.2.2.2
  subst hq; subst hR; subst hX
  intro H locs ls hP hS hl
  obtain ⟨ws, w1, w2, w3⟩ := hP.ws
  have hr : inR (len : Int) := ⟨by omega, by omega⟩
  refine va_newq hx hb hown (hts _ hcl) (hT.over hU hov) hK w1 w2 hS (fun z hz => Nat.le_trans hU.2.1 hz) (N' := len) ?_ ?_ (by omega) hce hsl d (fun a cB H1 gK g1 g2 g3 => ?_)
  · rw [Int32.lt_iff_toInt_lt, iI_toInt hr]
    have : (0 : Int32).toInt = 0 := by decide
    omega
  · show (iI (len : Int)).toInt.toNat = len
    rw [iI_toInt hr]; omega
  · have e : cB = cA := by
      have h1 := (gK.2 (zTys θ').length (cB, .object E) (by rw [List.getElem?_append_right (Nat.le_refl _), Nat.sub_self]; rfl)).2
      have h2 := (hK.2 t0 _ ht).2
      obtain ⟨_, _, _, _, _, h4⟩ := h1
      obtain ⟨_, _, _, _, _, h5⟩ := h2
      exact Option.some.inj (h4.symm.trans h5)
    subst e
    obtain ⟨f1, f2, f3⟩ := zL.push hP w1 w3 g1 g2
    exact kk a f2 f3 H1 locs ls f1 g3 hl
/-- an object of the number ci is a thing of the class named -/
theorem z_castY (C : ZC κ own nm cc nL ret rm P) (hκ : κ.1 = θ) (hT : zTb θ) {E : String} (q : Nat) (hM : M a = some (.inr (ci, fs))) (hc : zCl[ci]? = some (Cn, T, N9)) (hcl : Cond.classLink own index E ∈ lw_all) (hca : Cond.castable Cn E ∈ lw_tbl) (d : decode cc pc = .ok (.checkcast index, 3)) (hq : pc + 3 = q) (kk : Z κ (zP θ M N) n k q lv (.ref a :: rest)) : Z κ (zP θ M N) n k pc lv (.ref a :: rest) := by
  obtain ⟨θ', p, l, e, R, s, m, args, below, meth, c, Q⟩ := κ
  obtain ⟨hx, hb, hml, hown, hts, hU, hlk, hret, hnm, hR, hQ⟩ := C
  have hκ : θ' = θ := hκ
  subst hκ
  have hK := hU.2.2.2
  subst hq
  intro H locs ls hP hS hl
  exact va_castY hx hb hown (hts _ hcl) (hT.cast hU hca) (zrec_cell (zrec_P hM) hc hU hP) d (kk H locs ls hP hS hl)
theorem z_castS (C : ZC κ own nm cc nL ret rm P) (hκ : κ.1 = θ) (q : Nat) (hM : M a = some (.inr (ci, fs))) (hc : zCl[ci]? = some (Cn, T, N9)) (hcl : Cond.classLink own index Cn ∈ lw_all) (d : decode cc pc = .ok (.checkcast index, 3)) (hq : pc + 3 = q) (kk : Z κ (zP θ M N) n k q lv (.ref a :: rest)) : Z κ (zP θ M N) n k pc lv (.ref a :: rest) := by
  obtain ⟨θ', p, l, e, R, s, m, args, below, meth, c, Q⟩ := κ
  obtain ⟨hx, hb, hml, hown, hts, hU, hlk, hret, hnm, hR, hQ⟩ := C
  have hκ : θ' = θ := hκ
  subst hκ
  have hK := hU.2.2.2
  subst hq
  intro H locs ls hP hS hl
  exact va_castS hx hb hown (hts _ hcl) (hK.1 ci _ hc).2 (zrec_cell (zrec_P hM) hc hU hP) d (kk H locs ls hP hS hl)
theorem z_instS (C : ZC κ own nm cc nL ret rm P) (hκ : κ.1 = θ) (q : Nat) (hM : M a = some (.inr (ci, fs))) (hc : zCl[ci]? = some (Cn, T, N9)) (hcl : Cond.classLink own index Cn ∈ lw_all) (d : decode cc pc = .ok (.instanceof index, 3)) (hq : pc + 3 = q) (kk : Z κ (zP θ M N) n k q lv (.int (iI (bI true)) :: rest)) : Z κ (zP θ M N) n k pc lv (.ref a :: rest) := by
  obtain ⟨θ', p, l, e, R, s, m, args, below, meth, c, Q⟩ := κ
  obtain ⟨hx, hb, hml, hown, hts, hU, hlk, hret, hnm, hR, hQ⟩ := C
  have hκ : θ' = θ := hκ
  subst hκ
  have hK := hU.2.2.2
  subst hq
  intro H locs ls hP hS hl
  exact va_instS hx hb hown (hts _ hcl) (hK.1 ci _ hc).2 (zrec_cell (zrec_P hM) hc hU hP) d (kk H locs ls hP hS hl)
theorem z_instNo (C : ZC κ own nm cc nL ret rm P) (hκ : κ.1 = θ) (hT : zTb θ) {E : String} (q : Nat) (hM : M a = some (.inr (ci, fs))) (hc : zCl[ci]? = some (Cn, T, N9)) (hcl : Cond.classLink own index E ∈ lw_all) (hno : (Cn, E) ∈ zNc) (d : decode cc pc = .ok (.instanceof index, 3)) (hq : pc + 3 = q) (kk : Z κ (zP θ M N) n k q lv (.int (iI (bI false)) :: rest)) : Z κ (zP θ M N) n k pc lv (.ref a :: rest) := by
  obtain ⟨θ', p, l, e, R, s, m, args, below, meth, c, Q⟩ := κ
  obtain ⟨hx, hb, hml, hown, hts, hU, hlk, hret, hnm, hR, hQ⟩ := C
  have hκ : θ' = θ := hκ
  subst hκ
  have hK := hU.2.2.2
  subst hq
  intro H locs ls hP hS hl
  exact va_instNo hx hb hown (hts _ hcl) (hT.no hU hno) (zrec_cell (zrec_P hM) hc hU hP) d (kk H locs ls hP hS hl)
theorem zrec_arr {x : vp_A} {cA : ClassId} {ty : FieldType} {t0 : Nat} {H : Heap} {s : State} (hM : M a = some (.inl (cA, x))) (ht : (zTys θ)[t0]? = some (cA, ty)) (hU : zU θ s) (hP : zP θ M N H) : ∃ cell : Cell, H[a]? = some cell ∧ cell.vm.isStatics = false ∧ s.vm.findClass ("[" ++ ty.toString) = some cell.cls := by
  have hfc : s.vm.findClass ("[" ++ ty.toString) = some cA := by
    have h := (hU.2.2.2.2 t0 _ ht).2
    cases ty with
    | object C => obtain ⟨_, _, _, _, _, h4⟩ := h; exact h4
    | _ => exact h
  have hw := (hP.1 a _ hM).1
  refine ⟨vp_cell cA x, hw, ?_, ?_⟩
  · obtain ⟨n, f | f | f | f | f⟩ := x <;> rfl
  · rw [hfc]; obtain ⟨n, f | f | f | f | f⟩ := x <;> rfl
/-- a row that is of the class named -/
theorem z_castA (C : ZC κ own nm cc nL ret rm P) (hκ : κ.1 = θ) {x : vp_A} {cA : ClassId} {ty : FieldType} {An : String} (q t0 : Nat) (hM : M a = some (.inl (cA, x))) (ht : (zTys θ)[t0]? = some (cA, ty)) (hA : "[" ++ ty.toString = An) (hcl : Cond.classLink own index An ∈ lw_all) (d : decode cc pc = .ok (.checkcast index, 3)) (hq : pc + 3 = q) (kk : Z κ (zP θ M N) n k q lv (.ref a :: rest)) : Z κ (zP θ M N) n k pc lv (.ref a :: rest) := by
  obtain ⟨θ', p, l, e, R, s, m, args, below, meth, c, Q⟩ := κ
  obtain ⟨hx, hb, hml, hown, hts, hU, hlk, hret, hnm, hR, hQ⟩ := C
  have hκ : θ' = θ := hκ
  subst hκ
  have hK := hU.2.2.2
  subst hq; subst hA
  intro H locs ls hP hS hl
  exact va_castE hx hb hown (hts _ hcl) (zrec_arr hM ht hU hP) d (kk H locs ls hP hS hl)
theorem z_instA (C : ZC κ own nm cc nL ret rm P) (hκ : κ.1 = θ) {x : vp_A} {cA : ClassId} {ty : FieldType} {An : String} (q t0 : Nat) (hM : M a = some (.inl (cA, x))) (ht : (zTys θ)[t0]? = some (cA, ty)) (hA : "[" ++ ty.toString = An) (hcl : Cond.classLink own index An ∈ lw_all) (d : decode cc pc = .ok (.instanceof index, 3)) (hq : pc + 3 = q) (kk : Z κ (zP θ M N) n k q lv (.int (iI (bI true)) :: rest)) : Z κ (zP θ M N) n k pc lv (.ref a :: rest) := by
  obtain ⟨θ', p, l, e, R, s, m, args, below, meth, c, Q⟩ := κ
  obtain ⟨hx, hb, hml, hown, hts, hU, hlk, hret, hnm, hR, hQ⟩ := C
  have hκ : θ' = θ := hκ
  subst hκ
  have hK := hU.2.2.2
  subst hq; subst hA
  intro H locs ls hP hS hl
  exact va_instE hx hb hown (hts _ hcl) (zrec_arr hM ht hU hP) d (kk H locs ls hP hS hl)
/-- .. of a class above: rows of Ones, of Manies are rows of Things -/
theorem z_castAY (C : ZC κ own nm cc nL ret rm P) (hκ : κ.1 = θ) {x : vp_A} {cA : ClassId} {ty : FieldType} {An : String} (q t0 : Nat) (hM : M a = some (.inl (cA, x))) (ht : (zTys θ)[t0]? = some (cA, ty)) (hca : va_Nw (.castable ("[" ++ ty.toString) An) θ.2.2) (hcl : Cond.classLink own index An ∈ lw_all) (d : decode cc pc = .ok (.checkcast index, 3)) (hq : pc + 3 = q) (kk : Z κ (zP θ M N) n k q lv (.ref a :: rest)) : Z κ (zP θ M N) n k pc lv (.ref a :: rest) := by
  obtain ⟨θ', p, l, e, R, s, m, args, below, meth, c, Q⟩ := κ
  obtain ⟨hx, hb, hml, hown, hts, hU, hlk, hret, hnm, hR, hQ⟩ := C
  have hκ : θ' = θ := hκ
  subst hκ
  have hK := hU.2.2.2
  subst hq
  intro H locs ls hP hS hl
  exact va_castY hx hb hown (hts _ hcl) (va_Nw.warmC hU.1 hca) (zrec_arr hM ht hU hP) d (kk H locs ls hP hS hl)
theorem z_instAY (C : ZC κ own nm cc nL ret rm P) (hκ : κ.1 = θ) {x : vp_A} {cA : ClassId} {ty : FieldType} {An : String} (q t0 : Nat) (hM : M a = some (.inl (cA, x))) (ht : (zTys θ)[t0]? = some (cA, ty)) (hca : va_Nw (.castable ("[" ++ ty.toString) An) θ.2.2) (hcl : Cond.classLink own index An ∈ lw_all) (d : decode cc pc = .ok (.instanceof index, 3)) (hq : pc + 3 = q) (kk : Z κ (zP θ M N) n k q lv (.int (iI (bI true)) :: rest)) : Z κ (zP θ M N) n k pc lv (.ref a :: rest) := by
  obtain ⟨θ', p, l, e, R, s, m, args, below, meth, c, Q⟩ := κ
  obtain ⟨hx, hb, hml, hown, hts, hU, hlk, hret, hnm, hR, hQ⟩ := C
  have hκ : θ' = θ := hκ
  subst hκ
  have hK := hU.2.2.2
  subst hq
  intro H locs ls hP hS hl
  exact va_instY hx hb hown (hts _ hcl) (va_Nw.warmC hU.1 hca) (zrec_arr hM ht hU hP) d (kk H locs ls hP hS hl)
theorem z_instAN (C : ZC κ own nm cc nL ret rm P) (hκ : κ.1 = θ) (hT : zTb θ) {x : vp_A} {cA : ClassId} {ty : FieldType} {An Bn : String} (q t0 : Nat) (hM : M a = some (.inl (cA, x))) (ht : (zTys θ)[t0]? = some (cA, ty)) (hA : "[" ++ ty.toString = Bn) (hno : (Bn, An) ∈ zNc) (hcl : Cond.classLink own index An ∈ lw_all) (d : decode cc pc = .ok (.instanceof index, 3)) (hq : pc + 3 = q) (kk : Z κ (zP θ M N) n k q lv (.int (iI (bI false)) :: rest)) : Z κ (zP θ M N) n k pc lv (.ref a :: rest) := by
  obtain ⟨θ', p, l, e, R, s, m, args, below, meth, c, Q⟩ := κ
  obtain ⟨hx, hb, hml, hown, hts, hU, hlk, hret, hnm, hR, hQ⟩ := C
  have hκ : θ' = θ := hκ
  subst hκ
  have hK := hU.2.2.2
  subst hq; subst hA
  intro H locs ls hP hS hl
  exact va_instNo hx hb hown (hts _ hcl) (hT.no hU hno) (zrec_arr hM ht hU hP) d (kk H locs ls hP hS hl)
end XHeap
