/-! ===== texts of the machine's own exceptions ===== -/
def zHm (vm : Vm) (C : String) (k : Class) : Prop := k.name = C ∧ k.hidden = none ∧ k.loader = none ∧ (vm.home k = "module java.base of loader 'bootstrap'" ∨ vm.home k = "unnamed module of loader 'bootstrap'")
theorem xcls {vm : Vm} {C : String} {c : ClassId} (h : vm.findClass C = some c) : ∃ k, vm.classes[c]? = some k ∧ k.name = C ∧ k.hidden = none ∧ k.loader = none := by
  obtain ⟨hlt, hp, _⟩ := Array.findIdx?_eq_some_iff_getElem.mp h
  refine ⟨vm.classes[c], by simp [hlt], ?_⟩
  simp only [Bool.and_eq_true, beq_iff_eq, Option.isNone_iff_eq_none] at hp
  exact ⟨hp.1.1.1, hp.1.1.2, hp.2⟩
theorem xhome {vm : Vm} {C : String} {k : Class} (hm : (vm.modules.all fun m => m.loader.isSome || m.name == "java.base" || !(castPackages_1.any fun p => m.packages.contains p)) = true) (h1 : k.name = C) (h2 : k.hidden = none) (h3 : k.loader = none) (hp : packageOf C = "") : zHm vm C k := by
  refine ⟨h1, h2, h3, ?_⟩
  unfold Vm.home
  rw [h3]
  cases h : vm.moduleOf k with
  | none => exact Or.inr rfl
  | some m =>
    left
    have hn : m.name = "java.base" := by
      unfold Vm.moduleOf at h
      split at h
      · have := List.find?_some h; simpa using this
      · have h4 := List.find?_some h
        have h5 := List.mem_of_find?_eq_some h
        rw [h1, h3, hp] at h4
        simp only [Bool.and_eq_true, beq_iff_eq] at h4
        have h6 := List.all_eq_true.mp hm m h5
        rw [h4.1] at h6
        simp only [Option.isSome_none, Bool.false_or, Bool.or_eq_true, beq_iff_eq] at h6
        rcases h6 with h6 | h6
        · exact h6
        · have : (castPackages_1.any fun p => m.packages.contains p) = true := by
            unfold castPackages_1; simp [h4.2]
            left; simpa using h4.2
          rw [this] at h6; cases h6
    show ("module " ++ m.name) ++ " of loader " ++ vm.loaderName none = _
    rw [hn]; rfl
theorem zHm.alike {vm vm' : Vm} {C : String} {k k' : Class} (h : vm.Alike vm') (hk : zHm vm C k) (e : k' = { k with resolved := k'.resolved, nestHost := k'.nestHost, nestHostError := k'.nestHostError }) : k'.name = C ∧ k'.hidden = none ∧ k'.loader = none := by
  rw [e]; exact ⟨hk.1, hk.2.1, hk.2.2.1⟩
/-- the text of a cast that fails: short, and told by the model -/
def zMg (A B : String) : Prop := ∀ (vm : Vm) (s t : Class), zHm vm A s → zHm vm B t → (Op.checkcast.message vm s t == notModelled) = false ∧ (stringBytes (stringToUtf16 (Op.checkcast.message vm s t))).size ≤ 1000
def zMt (A B a b : String) (m : Bool) : String := ("class " ++ dotted A ++ " cannot be cast to class " ++ dotted B ++ " (" ++ (if m then dotted A ++ " and " ++ dotted B ++ " are in " ++ a else dotted A ++ " is in " ++ a ++ "; " ++ dotted B ++ " is in " ++ b) ++ ")" : String)
theorem zMt_len {A B a b : String} {m : Bool} (h : (dotted A).toList.length + (dotted B).toList.length ≤ 60) (ha : a.toList.length ≤ 40) (hb : b.toList.length ≤ 40) : (zMt A B a b m).toList.length ≤ 250 := by
  have l0 : ("class " : String).toList.length = 6 := by decide
  have l1 : (" cannot be cast to class " : String).toList.length = 25 := by decide
  have l2 : (" (" : String).toList.length = 2 := by decide
  have l3 : (")" : String).toList.length = 1 := by decide
  have l4 : (" and " : String).toList.length = 5 := by decide
  have l5 : (" are in " : String).toList.length = 8 := by decide
  have l6 : (" is in " : String).toList.length = 7 := by decide
  have l7 : ("; " : String).toList.length = 2 := by decide
  unfold zMt
  cases m
  · simp only [Bool.false_eq_true, if_false, String.toList_append, List.length_append]; omega
  · simp only [if_true, String.toList_append, List.length_append]; omega
theorem zMt_c {A B a b : String} {m : Bool} : (zMt A B a b m == notModelled) = false := by
  rw [beq_eq_false_iff_ne]
  intro h
  have h2 := congrArg String.toList h
  have h3 : ∃ r, (zMt A B a b m).toList = 'c' :: r := by
    refine ⟨("lass ".toList ++ ((zMt A B a b m).toList.drop 6)), ?_⟩
    unfold zMt
    simp only [String.toList_append, List.append_assoc]
    rfl
  obtain ⟨r, h3⟩ := h3
  rw [h3] at h2
  have h4 : notModelled.toList = '\u0000' :: " a message that is not modelled".toList := by decide
  rw [h4] at h2
  simp at h2
theorem zMg_of {A B : String} (h : (dotted A).toList.length + (dotted B).toList.length ≤ 60) : zMg A B := by
  intro vm s t hs ht
  have e : Op.checkcast.message vm s t = zMt A B (vm.home s) (vm.home t) (vm.sameModule s t) := by
    have e1 : s.shown = dotted A := by unfold Class.shown; rw [hs.2.1, hs.1]
    have e2 : t.shown = dotted B := by unfold Class.shown; rw [ht.2.1, ht.1]
    unfold Op.checkcast.message Vm.homes zMt
    rw [e1, e2]
    first | done | rfl
  rw [e]
  have hl : ∀ x : String, (x = "module java.base of loader 'bootstrap'" ∨ x = "unnamed module of loader 'bootstrap'") → x.toList.length ≤ 40 := fun x hx => by rcases hx with rfl | rfl <;> decide
  have b1 := stringBytes_size_le (stringToUtf16 (zMt A B (vm.home s) (vm.home t) (vm.sameModule s t)))
  have b2 := utf16_size_le (zMt A B (vm.home s) (vm.home t) (vm.sameModule s t))
  have b3 := zMt_len (m := vm.sameModule s t) h (hl _ hs.2.2.2) (hl _ ht.2.2.2)
  exact ⟨zMt_c, by omega⟩

theorem xmg_0 : zMg "[Z" "[LReflectMirror$Thing;" := zMg_of (by decide +kernel)
theorem xmg_1 : zMg "[C" "[LReflectMirror$Thing;" := zMg_of (by decide +kernel)
theorem xmg_2 : zMg "[B" "[LReflectMirror$Thing;" := zMg_of (by decide +kernel)
theorem xmg_3 : zMg "[S" "[LReflectMirror$Thing;" := zMg_of (by decide +kernel)
theorem xmg_4 : zMg "[I" "[LReflectMirror$Thing;" := zMg_of (by decide +kernel)
theorem xmg_5 : zMg "[J" "[LReflectMirror$Thing;" := zMg_of (by decide +kernel)
theorem xmg_6 : zMg "[F" "[LReflectMirror$Thing;" := zMg_of (by decide +kernel)
theorem xmg_7 : zMg "[D" "[LReflectMirror$Thing;" := zMg_of (by decide +kernel)
theorem xmg_8 : zMg "ReflectMirror$One" "ReflectMirror$Many" := zMg_of (by decide +kernel)
theorem xpk_ : packageOf "[Z" = "" ∧ packageOf "[C" = "" ∧ packageOf "[B" = "" ∧ packageOf "[S" = "" ∧ packageOf "[I" = "" ∧ packageOf "[J" = "" ∧ packageOf "[F" = "" ∧ packageOf "[D" = "" ∧ packageOf "[LReflectMirror$Thing;" = "" ∧ packageOf "ReflectMirror$One" = "" ∧ packageOf "ReflectMirror$Many" = "" := by decide +kernel

section XST
variable {p : Program} {l : Launch} {e : Env} {R : Room} {s : State} {m : MethodId} {args : Array Value} {below : List Frame} {meth : Method} {c : Code} {T : State} {locs : List Loc} {cells slots : Nat}
theorem xs_castNo (X : Stand p l e R s m args below meth c T locs cells slots) (hexec : p.tables.exec = Jvm.exec) {own name : String} {index : Nat} (hown : s.vm.findClass own = some m.cls) (hlink : (Cond.classLink own index name).before args s = true)
    {a : Addr} {cell : Cell} {cT : ClassId} {ks kt0 : Class} (hcell : T.heap[a]? = some cell) (hobj : ∀ k, cell.vm ≠ .statics k) (hks : s.vm.classes[cell.cls]? = some ks) (hcT : s.vm.findClass name = some cT) (hkt0 : s.vm.classes[cT]? = some kt0) (hasg : s.vm.assignable cell.cls cT = false)
    {g : JFrame} (hg : g.method = m) {rest : List Value} (hstack : g.stack = .ref a :: rest) (hdg : decode c.code g.pc = .ok (.checkcast index, 3)) :
    ∃ (vm' : Vm) (ks' kt' : Class), s.vm.Alike vm' ∧ ks' = { ks with resolved := ks'.resolved, nestHost := ks'.nestHost, nestHostError := ks'.nestHostError } ∧ kt' = { kt0 with resolved := kt'.resolved, nestHost := kt'.nestHost, nestHostError := kt'.nestHostError } ∧ Stand p l e R s m args below meth c (T.setVm vm') locs cells slots ∧
      ∀ target, Steps p.tables e below (((T.setVm vm').setTop g).pushFrame (.throwNew "java/lang/ClassCastException" (some (Op.checkcast.message vm' ks' kt')) none)) target → Steps p.tables e below (T.setTop g) target := by
  have hpl : e.platform.magicAccessors = ({} : Platform).magicAccessors := by rw [X.admits.platform]
  obtain ⟨c', hc', hcl⟩ := Cond.classLink_spec hown hlink e.platform hpl
  cases hcT.symm.trans hc'
  obtain ⟨dk, _, _, kt, hd, _, _, _, _, hkt, _, hopen⟩ := hcl.here
  have hcl₀ := X.warmed.classLinks hcl
  have hW' : s.WarmedH (T.vm.noted m.cls index (.cls cT)) := X.warmed.noted hd hopen (State.rightAt_cls hcl)
  obtain ⟨ks', hks', eks⟩ := hW'.alike.2.2 _ _ hks
  obtain ⟨kt', hkt', ekt⟩ := hW'.alike.2.2 _ _ hkt0
  refine ⟨_, ks', kt', hW'.alike, eks, ekt, X.noted hW', fun target hrest => ?_⟩
  subst hg
  jvm_step X.here [hexec, hdg, Op.checkcast.wp_cold (e := e) (s := T) (f := g) X.here.top hstack (resolveClass_links e.toSetting hcl₀) hcl₀.ready,
    Op.checkcast.wp_ready (e := e) (s := T.setVm (T.vm.noted g.method.cls index (.cls cT))) (f := g) X.here.top hcl₀.ready hstack]
  refine ⟨cell, hcell, hobj, ks', hks', kt', hkt', ?_⟩
  rw [if_neg (by rw [hW'.alike.assignable, hasg]; decide)]
  exact hrest
theorem xs_aastNo (X : Stand p l e R s m args below meth c T locs cells slots) (hexec : p.tables.exec = Jvm.exec)
    {a v : Addr} {cell cv : Cell} {j : Int32} {k kv kcomp : Class} {comp : ClassId} {t : FieldType}
    (hcell : T.heap[a]? = some cell) (hobj : ∀ q, cell.vm ≠ .statics q) (hknown : cell.vm ≠ .unknown)
    (hk : s.vm.classes[cell.cls]? = some k) (hkind : k.kind = .array comp t) (hkcomp : s.vm.classes[comp]? = some kcomp)
    (hin : ¬ j < 0 ∧ j.toNatClampNeg < cell.slots.size)
    (hv : T.heap[v]? = some cv) (hvobj : ∀ q, cv.vm ≠ .statics q) (hkv : s.vm.classes[cv.cls]? = some kv) (hinst : s.vm.assignable cv.cls comp = false)
    {g : JFrame} (hg : g.method = m) {rest : List Value} (hstack : g.stack = .ref v :: .int j :: .ref a :: rest) (hdg : decode c.code g.pc = .ok (.aastore, 1)) :
    ∃ kv' : Class, kv' = { kv with resolved := kv'.resolved, nestHost := kv'.nestHost, nestHostError := kv'.nestHostError } ∧ ∀ target, Steps p.tables e below ((T.setTop { g with stack := rest }).pushFrame (.throwNew "java/lang/ArrayStoreException" (some kv'.shown) none)) target → Steps p.tables e below (T.setTop g) target := by
  have hal : s.vm.Alike T.vm := X.warmed.alike
  obtain ⟨k₁, hk₁, hek⟩ := hal.2.2 _ _ hk
  have hkind₁ : k₁.kind = .array comp t := by rw [hek]; exact hkind
  obtain ⟨kcomp₁, hkcomp₁, -⟩ := hal.2.2 _ _ hkcomp
  obtain ⟨kv₁, hkv₁, ekv⟩ := hal.2.2 _ _ hkv
  have hinst₁ : T.vm.assignable cv.cls comp = false := by rw [hal.assignable]; exact hinst
  have harr : T.isArray cell := ⟨hobj, k₁, hk₁, comp, t, hkind₁⟩
  refine ⟨kv₁, ekv, fun target hrest => ?_⟩
  subst hg
  jvm_step X.here [hexec, hdg, Op.aastore.sem, X.here.top, hstack, hcell, hobj, hknown, hk₁, hkind₁, hin.1, hin.2, Nat.not_le.mpr hin.2, harr, hv, hvobj, hkv₁, hkcomp₁, hinst₁]
  exact hrest
theorem xs_anewWp {Q : Unit → Pre} {E : CtlPost} {e : Env} {d : Bool} {acts : List Action} {s : State} {f : JFrame} {index : Nat} {comp c : ClassId} {n : Int32} {rest : List Value} {kc : Class} (hs : s.topJava?.isSome) (hr : s.vm.classReady f.method.cls index comp) (hkc : s.vm.classes[comp]? = some kc)
    (hc : (s.vm.classes.findIdx? fun x => match x.kind with | .array component _ => component == comp | _ => false) = some c) (hstack : f.stack = .int n :: rest) (hn : n < 0) :
    wp (Op.anewarray.sem index) Q E e d acts (s.setTop f) ↔ E (.throwNew "java/lang/NegativeArraySizeException" (some (toString n))) acts (s.setTop { f with stack := rest }) := by
  simp only [Op.anewarray.sem, wp_bind', W.resolveClassAt_ready (State.method?_setTop f hs) hr,
    W.arrayClassOf'_ready (s := s.setTop f) (show (s.setTop f).vm.classes[comp]? = some kc from hkc) (show ((s.setTop f).vm.classes.findIdx? _) = some c from hc),
    W.popInt, State.topJava?_setTop' _ hs, Option.some.injEq, exists_eq_left', hstack, List.cons.injEq, Value.int.injEq, exists_cons_eq, State.setTop_setTop]
  simp [hn]
theorem xs_anewNeg (X : Stand p l e R s m args below meth c T locs cells slots) (hexec : p.tables.exec = Jvm.exec) {own C : String} {index : Nat}
    (hown : s.vm.findClass own = some m.cls) (hclink : (Cond.classLink own index C).before args s = true) (hover : (Cond.arrayOver (.object C)).before args s = true)
    {g : JFrame} (hg : g.method = m) (hdg : decode c.code g.pc = .ok (.anewarray index, 3)) {n : Int32} {rest : List Value} (hstack : g.stack = .int n :: rest) (hn : n < 0) :
    ∃ vm₁ : Vm, Stand p l e R s m args below meth c (T.setVm vm₁) locs cells slots ∧
      ∀ target, Steps p.tables e below (((T.setVm vm₁).setTop { g with stack := rest }).pushFrame (.throwNew "java/lang/NegativeArraySizeException" (some (toString n)) none)) target → Steps p.tables e below (T.setTop g) target := by
  subst hg
  have hpl : e.platform.magicAccessors = ({} : Platform).magicAccessors := by rw [X.admits.platform]
  obtain ⟨comp, cA, kA, hcomp, hidx, hkA, hkindA, hnameA⟩ := Cond.arrayOver_spec hover
  obtain ⟨kComp, hkComp, -⟩ := Vm.findClass_spec hcomp
  obtain ⟨cc, hfcc, hcl⟩ := Cond.classLink_spec hown hclink e.platform hpl
  cases hcomp.symm.trans hfcc
  obtain ⟨hg₁, hwarm₁, hready₁⟩ := State.classEntry (e := e) X.warmed hcl
  generalize T.vm.noted g.method.cls index (.cls comp) = vm₁ at hg₁ hwarm₁ hready₁
  have hal : s.vm.Alike vm₁ := hwarm₁.alike
  obtain ⟨kComp₁, hkComp₁, -⟩ := hal.2.2 _ _ hkComp
  have hidx₁ : (vm₁.classes.findIdx? fun x => match x.kind with | .array component _ => component == comp | _ => false) = some cA := by
    rw [hal.findIdx?_eqK _ (fun _ => rfl)]; exact hidx
  refine ⟨vm₁, X.noted hwarm₁, fun target hrest => ?_⟩
  jvm_step X.here [hexec, hdg, Op.anewarray.wp_cold (e := e) (s := T) (f := g) X.here.top hg₁ hready₁,
    xs_anewWp (e := e) (s := T.setVm vm₁) (f := g) X.here.top hready₁ hkComp₁ hidx₁ hstack hn]
  exact hrest
end XST
theorem int32_told (i : Int32) : ((toString i : String) == notModelled) = false := by
  rw [beq_eq_false_iff_ne]
  intro h
  have h2 : (toString i).toList.length = notModelled.toList.length := congrArg (fun s : String => s.toList.length) h
  have h3 := int32_print i
  have h4 : notModelled.toList.length = 32 := by decide
  omega
theorem va_S.mk_ {A : Nat → Prop} {H0 H H1 : Heap} {locs : List Loc} (h : va_S A H0 H locs) (h1 : H.size ≤ H1.size) (h2 : ∀ q : Nat, q < H.size → H1[q]? = H[q]?) : va_S A H0 H1 locs := ⟨Nat.le_trans h.1 h1, fun q q1 q2 => (h2 q (Nat.lt_of_lt_of_le q1 h.1)).trans (h.2.1 q q1 q2), h.2.2⟩
section ZXRows
variable {κ : zK} {own nm : String} {cc : ByteArray} {nL : Nat} {ret : Option FieldType} {rm : Room} {P : Option Value → (Heap → Prop) → Prop} {n k pc : Nat} {lv : List (Nat × Value)} {st rest : List Value}
variable {θ : zTh} {l : Launch} {M N : zMap} {a ci index N9 : Nat} {ref Cn : String} {T : u_T} {ty0 : Nat → FieldType} {fs : List Value}
theorem zx_getfN (C : ZC κ own nm cc nL ret rm P) (hκ : κ.1 = θ) (hκl : κ.2.2.1 = l) (hT : zTb θ) (hZ : zTx θ l) (kf : Nat) (h9 : zcls ci Cn T N9 ty0) (hk : kf < N9) (hlink : Cond.fieldLink own index ref (T kf).2.1 (T kf).2.2.1 ∈ lw_all) (hsame : ref = (T kf).1 ∨ Cond.sameField ref (T kf).1 (T kf).2.1 (T kf).2.2.1 ∈ lw_all) (d : decode cc pc = .ok (.getfield index, 3)) (hf : 9 ≤ rm.frames) (hlo : 10250 ≤ rm.locals) (hsz : (rest.map fun v => v.category).sum ≤ 8) (hce : n + 1 ≤ rm.cells) (hsl : k + 8 ≤ rm.slots) (kx : ∀ b : Nat, zX κ (zP θ M N) (n + 1) (k + 8) pc lv b "java/lang/NullPointerException") : Z κ (zP θ M N) n k pc lv (.null :: rest) := by
  subst hκ; subst hκl
  obtain ⟨θ, p, l, e, R, s, m, args, below, meth, c, Q⟩ := κ
  obtain ⟨hx, hb, hml, hown, hts, hU, hlk, hret, hnm, rfl, hQ⟩ := C
  have hK := hU.2.2.2
  intro H locs ls hP hS hl
  exact vx_getfN hx hb hts h9.2.1 hown hK h9.1 kf hk (hts _ hlink) (fun x hx => hsame.elim (fun h => by rw [h]; exact hx) (fun h => u_same (hts _ h) x hx)) d (zx_npe hx hts hU hlk hT hZ xat_N hP hS hl (by omega) hlo (by omega) hce hsl kx)
theorem zx_getfNN (C : ZC κ own nm cc nL ret rm P) (hκ : κ.1 = θ) (hκl : κ.2.2.1 = l) (hT : zTb θ) (hZ : zTx θ l) {host : String} (kf : Nat) (h9 : zcls ci Cn T N9 ty0) (hk : kf < N9) (hlink : Cond.fieldLinkNest own index ref (T kf).2.1 (T kf).2.2.1 host ∈ lw_tbl) (hsame : ref = (T kf).1 ∨ Cond.sameField ref (T kf).1 (T kf).2.1 (T kf).2.2.1 ∈ lw_all) (d : decode cc pc = .ok (.getfield index, 3)) (hf : 9 ≤ rm.frames) (hlo : 10250 ≤ rm.locals) (hsz : (rest.map fun v => v.category).sum ≤ 8) (hce : n + 1 ≤ rm.cells) (hsl : k + 8 ≤ rm.slots) (kx : ∀ b : Nat, zX κ (zP θ M N) (n + 1) (k + 8) pc lv b "java/lang/NullPointerException") : Z κ (zP θ M N) n k pc lv (.null :: rest) := by
  subst hκ; subst hκl
  obtain ⟨θ, p, l, e, R, s, m, args, below, meth, c, Q⟩ := κ
  obtain ⟨hx, hb, hml, hown, hts, hU, hlk, hret, hnm, rfl, hQ⟩ := C
  have hK := hU.2.2.2
  intro H locs ls hP hS hl
  exact vx_getfNN hx hb hts h9.2.1 hown hK h9.1 kf hk (va_Nw.use rfl (hT.flink hU hlink)) (fun x hx => hsame.elim (fun h => by rw [h]; exact hx) (fun h => u_same (hts _ h) x hx)) d (zx_npe hx hts hU hlk hT hZ xat_N hP hS hl (by omega) hlo (by omega) hce hsl kx)
theorem zx_aaldZ (C : ZC κ own nm cc nL ret rm P) (hκ : κ.1 = θ) (hκl : κ.2.2.1 = l) (hT : zTb θ) (hZ : zTx θ l) {cA : ClassId} {E : String} {len : Nat} {f : Nat → Option Nat} {X : Int} (t0 : Nat) (hM : M a = some (.inl (cA, len, xQ f))) (ht : (zTys θ)[t0]? = some (cA, .object E)) (hX : inR X) (hout : X < 0 ∨ (len : Int) ≤ X) (hlen : len ≤ 1000) (d : decode cc pc = .ok (.aaload, 1)) (hf : 9 ≤ rm.frames) (hlo : 10250 ≤ rm.locals) (hsz : (rest.map fun v => v.category).sum ≤ 8) (hce : n + 3 ≤ rm.cells) (hsl : k + 222 ≤ rm.slots) (kx : ∀ b : Nat, zX κ (zP θ M N) (n + 3) (k + 222) pc lv b "java/lang/ArrayIndexOutOfBoundsException") : Z κ (zP θ M N) n k pc lv (.int (iI X) :: .ref a :: rest) := by
  subst hκ; subst hκl
  obtain ⟨θ, p, l, e, R, s, m, args, below, meth, c, Q⟩ := κ
  obtain ⟨hx, hb, hml, hown, hts, hU, hlk, hret, hnm, rfl, hQ⟩ := C
  have hK := hU.2.2.2
  intro H locs ls hP hS hl
  intro T0 hT0 X9
  obtain ⟨t, st, q⟩ := (show vx_Note p l e R s m args below meth c H locs n k Q (F0 m pc ls rest) "java/lang/ArrayIndexOutOfBoundsException" (toString "Index " ++ toString (iI X) ++ toString " out of bounds for length " ++ toString len : String) from (zx_vm hx hts hU hlk hT hZ (by decide +kernel) (by decide +kernel) (by decide +kernel) (by decide +kernel) xat_A hP hS hl (index_text_modelled _ _) (index_text_bytes _ (by omega)) (show 212 ≤ 1000 by decide) (by simp only [List.length_cons, List.length_nil]; omega) hlo (by first | omega | (show 1 + (rest.map fun v => v.category).sum ≤ 10; omega)) (by decide) hce hsl kx)) T0 hT0 X9
  refine ⟨t, ?_, q⟩
  have h1 := X9.aaloadOut hx (by rw [hT0]; exact (hP.1 a _ hM).1) ((hK.2 t0 _ ht).1 len (fun j => va_rf (f j))) (j := iI X) (by show (iI X < 0 ∨ (arrV _ _ _).slots.size ≤ _); rw [arrV_size]; exact Classical.byContradiction fun hc => by have h8 : vp_in (iI X) len := hc; rw [vp_in_iff, iI_toInt hX] at h8; omega) (g := F0 m pc ls (.int (iI X) :: .ref a :: rest)) rfl (rest := rest) rfl (by rw [hb]; exact d) t
  simp only [arrV_size] at h1
  exact h1 st
theorem zx_castNo (C : ZC κ own nm cc nL ret rm P) (hκ : κ.1 = θ) (hκl : κ.2.2.1 = l) (hT : zTb θ) (hZ : zTx θ l) {E : String} (hM : M a = some (.inr (ci, fs))) (hc : zCl[ci]? = some (Cn, T, N9)) (hcl : Cond.classLink own index E ∈ lw_all) (hno : (Cn, E) ∈ zNc) (hp1 : packageOf Cn = "") (hp2 : packageOf E = "") (hmg : zMg Cn E) (d : decode cc pc = .ok (.checkcast index, 3)) (hf : 9 ≤ rm.frames) (hlo : 10250 ≤ rm.locals) (hsz : (rest.map fun v => v.category).sum ≤ 8) (hce : n + 3 ≤ rm.cells) (hsl : k + 1010 ≤ rm.slots) (kx : ∀ b : Nat, zX κ (zP θ M N) (n + 3) (k + 1010) pc lv b "java/lang/ClassCastException") : Z κ (zP θ M N) n k pc lv (.ref a :: rest) := by
  subst hκ; subst hκl
  obtain ⟨θ, p, l, e, R, s, m, args, below, meth, c, Q⟩ := κ
  obtain ⟨hx, hb, hml, hown, hts, hU, hlk, hret, hnm, rfl, hQ⟩ := C
  have hK := hU.2.2.2
  intro H locs ls hP hS hl
  intro T0 hT0 X9
  obtain ⟨cell, hc1, hc2, hc3⟩ := zrec_cell (zrec_P hM) hc hU hP
  obtain ⟨c1, c2, g1, g2, g3⟩ := hT.no hU hno
  cases Option.some.inj (g1.symm.trans hc3)
  obtain ⟨ks, hk1, hk2, hk3, hk4⟩ := xcls hc3
  obtain ⟨kt, ht1, ht2, ht3, ht4⟩ := xcls g2
  obtain ⟨vm', ks', kt', hal, e1, e2, X1, st1⟩ := xs_castNo X9 hx hown (hts _ hcl) (by rw [hT0]; exact hc1) (fun z hz => by rw [hz] at hc2; cases hc2) hk1 g2 ht1 g3 (g := F0 m pc ls (.ref a :: rest)) rfl (rest := rest) rfl (by rw [hb]; exact d)
  have hmod : (vm'.modules.all fun m => m.loader.isSome || m.name == "java.base" || !(castPackages_1.any fun p => m.packages.contains p)) = true := by
    have h8 := hZ.2.2.2
    have h71 : vm'.modules = s.vm.modules := by have h70 := congrArg Vm.modules hal.1; exact h70
    have h72 : s.vm.modules = θ.2.2.vm.modules := by have h70 := congrArg Vm.modules hU.1.alike.1; exact h70
    have h7 : vm'.modules = θ.2.2.vm.modules := h71.trans h72
    rw [h7]; exact h8
  have hm1 : zHm vm' _ ks' := xhome hmod (by rw [e1]; exact hk2) (by rw [e1]; exact hk3) (by rw [e1]; exact hk4) hp1
  have hm2 : zHm vm' _ kt' := xhome hmod (by rw [e2]; exact ht2) (by rw [e2]; exact ht3) (by rw [e2]; exact ht4) hp2
  obtain ⟨m1, m2⟩ := hmg vm' ks' kt' hm1 hm2
  obtain ⟨t, st, q⟩ := (show vx_Note p l e R s m args below meth c H locs n k Q (F0 m pc ls (.ref a :: rest)) "java/lang/ClassCastException" _ from (zx_vm hx hts hU hlk hT hZ (by decide +kernel) (by decide +kernel) (by decide +kernel) (by decide +kernel) xat_C hP hS hl m1 m2 (show 1000 ≤ 1000 by decide) (by simp only [List.length_cons, List.length_nil]; omega) hlo (by first | omega | (show 1 + (rest.map fun v => v.category).sum ≤ 10; omega)) (by decide) hce hsl kx)) (T0.setVm vm') hT0 X1
  exact ⟨t, st1 t st, q⟩
theorem zx_castAN (C : ZC κ own nm cc nL ret rm P) (hκ : κ.1 = θ) (hκl : κ.2.2.1 = l) (hT : zTb θ) (hZ : zTx θ l) {E An : String} {x : vp_A} {cA : ClassId} {ty : FieldType} (t0 : Nat) (hM : M a = some (.inl (cA, x))) (ht : (zTys θ)[t0]? = some (cA, ty)) (hA : "[" ++ ty.toString = An) (hcl : Cond.classLink own index E ∈ lw_all) (hno : (An, E) ∈ zNc) (hp1 : packageOf An = "") (hp2 : packageOf E = "") (hmg : zMg An E) (d : decode cc pc = .ok (.checkcast index, 3)) (hf : 9 ≤ rm.frames) (hlo : 10250 ≤ rm.locals) (hsz : (rest.map fun v => v.category).sum ≤ 8) (hce : n + 3 ≤ rm.cells) (hsl : k + 1010 ≤ rm.slots) (kx : ∀ b : Nat, zX κ (zP θ M N) (n + 3) (k + 1010) pc lv b "java/lang/ClassCastException") : Z κ (zP θ M N) n k pc lv (.ref a :: rest) := by
  subst hA
  subst hκ; subst hκl
  obtain ⟨θ, p, l, e, R, s, m, args, below, meth, c, Q⟩ := κ
  obtain ⟨hx, hb, hml, hown, hts, hU, hlk, hret, hnm, rfl, hQ⟩ := C
  have hK := hU.2.2.2
  intro H locs ls hP hS hl
  intro T0 hT0 X9
  obtain ⟨cell, hc1, hc2, hc3⟩ := zrec_arr hM ht hU hP
  obtain ⟨c1, c2, g1, g2, g3⟩ := hT.no hU hno
  cases Option.some.inj (g1.symm.trans hc3)
  obtain ⟨ks, hk1, hk2, hk3, hk4⟩ := xcls hc3
  obtain ⟨kt, ht1, ht2, ht3, ht4⟩ := xcls g2
  obtain ⟨vm', ks', kt', hal, e1, e2, X1, st1⟩ := xs_castNo X9 hx hown (hts _ hcl) (by rw [hT0]; exact hc1) (fun z hz => by rw [hz] at hc2; cases hc2) hk1 g2 ht1 g3 (g := F0 m pc ls (.ref a :: rest)) rfl (rest := rest) rfl (by rw [hb]; exact d)
  have hmod : (vm'.modules.all fun m => m.loader.isSome || m.name == "java.base" || !(castPackages_1.any fun p => m.packages.contains p)) = true := by
    have h8 := hZ.2.2.2
    have h71 : vm'.modules = s.vm.modules := by have h70 := congrArg Vm.modules hal.1; exact h70
    have h72 : s.vm.modules = θ.2.2.vm.modules := by have h70 := congrArg Vm.modules hU.1.alike.1; exact h70
    have h7 : vm'.modules = θ.2.2.vm.modules := h71.trans h72
    rw [h7]; exact h8
  have hm1 : zHm vm' _ ks' := xhome hmod (by rw [e1]; exact hk2) (by rw [e1]; exact hk3) (by rw [e1]; exact hk4) hp1
  have hm2 : zHm vm' _ kt' := xhome hmod (by rw [e2]; exact ht2) (by rw [e2]; exact ht3) (by rw [e2]; exact ht4) hp2
  obtain ⟨m1, m2⟩ := hmg vm' ks' kt' hm1 hm2
  obtain ⟨t, st, q⟩ := (show vx_Note p l e R s m args below meth c H locs n k Q (F0 m pc ls (.ref a :: rest)) "java/lang/ClassCastException" _ from (zx_vm hx hts hU hlk hT hZ (by decide +kernel) (by decide +kernel) (by decide +kernel) (by decide +kernel) xat_C hP hS hl m1 m2 (show 1000 ≤ 1000 by decide) (by simp only [List.length_cons, List.length_nil]; omega) hlo (by first | omega | (show 1 + (rest.map fun v => v.category).sum ≤ 10; omega)) (by decide) hce hsl kx)) (T0.setVm vm') hT0 X1
  exact ⟨t, st1 t st, q⟩
theorem zx_newaZ (C : ZC κ own nm cc nL ret rm P) (hκ : κ.1 = θ) (hκl : κ.2.2.1 = l) (hT : zTb θ) (hZ : zTx θ l) {atype : ArrayType} {X : Int} (hX : inR X) (h0 : X < 0) (d : decode cc pc = .ok (.newarray atype, 2)) (hf : 9 ≤ rm.frames) (hlo : 10250 ≤ rm.locals) (hsz : (rest.map fun v => v.category).sum ≤ 8) (hce : n + 3 ≤ rm.cells) (hsl : k + 70 ≤ rm.slots) (kx : ∀ b : Nat, zX κ (zP θ M N) (n + 3) (k + 70) pc lv b "java/lang/NegativeArraySizeException") : Z κ (zP θ M N) n k pc lv (.int (iI X) :: rest) := by
  subst hκ; subst hκl
  obtain ⟨θ, p, l, e, R, s, m, args, below, meth, c, Q⟩ := κ
  obtain ⟨hx, hb, hml, hown, hts, hU, hlk, hret, hnm, rfl, hQ⟩ := C
  have hK := hU.2.2.2
  intro H locs ls hP hS hl
  intro T0 hT0 X9
  have hlen : (toString (iI X)).toList.length ≤ 11 := int32_print _
  have b1 := stringBytes_size_le (stringToUtf16 (toString (iI X)))
  have b2 := utf16_size_le (toString (iI X))
  have hneg : iI X < 0 := by rw [Int32.lt_iff_toInt_lt, iI_toInt hX]; exact h0
  have hmd : ((toString (iI X) : String) == notModelled) = false := int32_told _
  obtain ⟨t, st, q⟩ := (show vx_Note p l e R s m args below meth c H locs n k Q (F0 m pc ls rest) "java/lang/NegativeArraySizeException" (toString (iI X)) from (zx_vm hx hts hU hlk hT hZ (by decide +kernel) (by decide +kernel) (by decide +kernel) (by decide +kernel) xat_G hP hS hl hmd (show _ ≤ 60 by omega) (show 60 ≤ 1000 by decide) (by simp only [List.length_cons, List.length_nil]; omega) hlo (by first | omega | (show 1 + (rest.map fun v => v.category).sum ≤ 10; omega)) (by decide) hce hsl kx)) T0 hT0 X9
  refine ⟨t, ?_, q⟩
  exact X9.newarrayNegative hx (g := F0 m pc ls (.int (iI X) :: rest)) rfl hneg (rest := rest) rfl (by rw [hb]; exact d) t st
theorem zx_anewZ (C : ZC κ own nm cc nL ret rm P) (hκ : κ.1 = θ) (hκl : κ.2.2.1 = l) (hT : zTb θ) (hZ : zTx θ l) {E : String} {X : Int} (hX : inR X) (h0 : X < 0) (hcl : Cond.classLink own index E ∈ lw_all) (hov : Cond.arrayOver (.object E) ∈ lw_tbl) (d : decode cc pc = .ok (.anewarray index, 3)) (hf : 9 ≤ rm.frames) (hlo : 10250 ≤ rm.locals) (hsz : (rest.map fun v => v.category).sum ≤ 8) (hce : n + 3 ≤ rm.cells) (hsl : k + 70 ≤ rm.slots) (kx : ∀ b : Nat, zX κ (zP θ M N) (n + 3) (k + 70) pc lv b "java/lang/NegativeArraySizeException") : Z κ (zP θ M N) n k pc lv (.int (iI X) :: rest) := by
  subst hκ; subst hκl
  obtain ⟨θ, p, l, e, R, s, m, args, below, meth, c, Q⟩ := κ
  obtain ⟨hx, hb, hml, hown, hts, hU, hlk, hret, hnm, rfl, hQ⟩ := C
  have hK := hU.2.2.2
  intro H locs ls hP hS hl
  intro T0 hT0 X9
  have hlen : (toString (iI X)).toList.length ≤ 11 := int32_print _
  have b1 := stringBytes_size_le (stringToUtf16 (toString (iI X)))
  have b2 := utf16_size_le (toString (iI X))
  have hneg : iI X < 0 := by rw [Int32.lt_iff_toInt_lt, iI_toInt hX]; exact h0
  have hmd : ((toString (iI X) : String) == notModelled) = false := int32_told _
  obtain ⟨vm₁, X1, st1⟩ := xs_anewNeg X9 hx hown (hts _ hcl) (va_AO.use (hT.over hU hov)) (g := F0 m pc ls (.int (iI X) :: rest)) rfl (by rw [hb]; exact d) (rest := rest) rfl hneg
  obtain ⟨t, st, q⟩ := (show vx_Note p l e R s m args below meth c H locs n k Q (F0 m pc ls rest) "java/lang/NegativeArraySizeException" (toString (iI X)) from (zx_vm hx hts hU hlk hT hZ (by decide +kernel) (by decide +kernel) (by decide +kernel) (by decide +kernel) xat_G hP hS hl hmd (show _ ≤ 60 by omega) (show 60 ≤ 1000 by decide) (by simp only [List.length_cons, List.length_nil]; omega) hlo (by first | omega | (show 1 + (rest.map fun v => v.category).sum ≤ 10; omega)) (by decide) hce hsl kx)) (T0.setVm vm₁) hT0 X1
  refine ⟨t, ?_, q⟩
  exact st1 t st
theorem zx_aastNo (C : ZC κ own nm cc nL ret rm P) (hκ : κ.1 = θ) (hκl : κ.2.2.1 = l) (hT : zTb θ) (hZ : zTx θ l) {cA : ClassId} {E : String} {len v : Nat} {f : Nat → Option Nat} {vs : List Value} {X : Int} (t0 : Nat) (hM : M a = some (.inl (cA, len, xQ f))) (ht : (zTys θ)[t0]? = some (cA, .object E)) (hv : M v = some (.inr (ci, vs))) (hc : zCl[ci]? = some (Cn, T, N9)) (hno : (Cn, E) ∈ zNc) (hlen : (dotted Cn).toList.length ≤ 60) (hhd : ((dotted Cn : String) == notModelled) = false) (h0 : 0 ≤ X) (h1 : X < (len : Int)) (h2 : len ≤ 2147483647) (d : decode cc pc = .ok (.aastore, 1)) (hf : 9 ≤ rm.frames) (hlo : 10250 ≤ rm.locals) (hsz : (rest.map fun v => v.category).sum ≤ 8) (hce : n + 3 ≤ rm.cells) (hsl : k + 250 ≤ rm.slots) (kx : ∀ b : Nat, zX κ (zP θ M N) (n + 3) (k + 250) pc lv b "java/lang/ArrayStoreException") : Z κ (zP θ M N) n k pc lv (.ref v :: .int (iI X) :: .ref a :: rest) := by
  subst hκ; subst hκl
  obtain ⟨θ, p, l, e, R, s, m, args, below, meth, c, Q⟩ := κ
  obtain ⟨hx, hb, hml, hown, hts, hU, hlk, hret, hnm, rfl, hQ⟩ := C
  have hK := hU.2.2.2
  intro H locs ls hP hS hl
  intro T0 hT0 X9
  obtain ⟨cell, hc1, hc2, hc3⟩ := zrec_cell (zrec_P hv) hc hU hP
  obtain ⟨c1, c2, g1, g2, g3⟩ := hT.no hU hno
  cases Option.some.inj (g1.symm.trans hc3)
  obtain ⟨ks, hk1, hk2, hk3, hk4⟩ := xcls hc3
  obtain ⟨kt, ht1, -⟩ := xcls g2
  obtain ⟨kA, comp, q1, q2, q3, q4⟩ := (hK.2 t0 _ ht).2
  cases Option.some.inj (q3.symm.trans g2)
  obtain ⟨i1, i2⟩ := zin_of h0 h1 h2
  have hcell : T0.heap[a]? = some (vp_cell cA (len, .inr (.inr (.inr (.inr f))))) := by rw [hT0]; exact (hP.1 a _ hM).1
  obtain ⟨kv', e1, st1⟩ := xs_aastNo X9 hx hcell (fun z hz => by cases hz) (by intro hz; cases hz) (show s.vm.classes[cA]? = some kA from q1) q2 ht1 (j := iI X) ⟨fun hz => i1 (Or.inl hz), by show _ < (arrV cA len (fun j => va_rf (f j))).slots.size; rw [arrV_size]; have := i2; omega⟩ (by rw [hT0]; exact hc1) (fun z hz => by rw [hz] at hc2; cases hc2) hk1 g3 (g := F0 m pc ls (.ref v :: .int (iI X) :: .ref a :: rest)) rfl (rest := rest) rfl (by rw [hb]; exact d)
  have hsh : kv'.shown = dotted Cn := by rw [e1]; unfold Class.shown; show (match ks.hidden with | none => _ | some _ => _) = _; rw [hk3]; show dotted ks.name = _; rw [hk2]
  rw [hsh] at st1
  have b1 := stringBytes_size_le (stringToUtf16 (dotted Cn))
  have b2 := utf16_size_le (dotted Cn)
  obtain ⟨t, st, q⟩ := (show vx_Note p l e R s m args below meth c H locs n k Q (F0 m pc ls rest) "java/lang/ArrayStoreException" (dotted Cn) from (zx_vm hx hts hU hlk hT hZ (by decide +kernel) (by decide +kernel) (by decide +kernel) (by decide +kernel) xat_S hP hS hl hhd (show _ ≤ 240 by omega) (show 240 ≤ 1000 by decide) (by simp only [List.length_cons, List.length_nil]; omega) hlo (by first | omega | (show 1 + (rest.map fun v => v.category).sum ≤ 10; omega)) (by decide) hce hsl kx)) T0 hT0 X9
  exact ⟨t, st1 t st, q⟩
theorem zx_throwI {hh : List (Nat × Nat × Nat × Nat)} {PX : String → Nat → (Heap → Prop) → Prop} (C : ZC κ "ReflectMirror" nm cc nL ret rm P) (hκ : κ.1 = θ) (hκl : κ.2.2.1 = l) (hT : zTb θ) (hZ : zTx θ l) (X : ZX κ [] rm P PX) (d0 : decode cc pc = .ok (.new 134, 3)) (d3 : decode cc (pc + 3) = .ok (.dup, 1)) (d4 : decode cc (pc + 4) = .ok (.invokespecial 136, 3)) (d7 : decode cc (pc + 7) = .ok (.athrow, 1)) (hf : 9 ≤ rm.frames) (hlo : 10250 ≤ rm.locals) (hsz : (rest.map fun v => v.category).sum ≤ 8) (hce : n + 1 ≤ rm.cells) (hsl : k + 6 ≤ rm.slots) (hPX : ∀ b : Nat, PX "java/lang/IllegalArgumentException" b (zP θ M N)) : Z κ (zP θ M N) n k pc lv rest := by
  subst hκ; subst hκl
  obtain ⟨θ, p, l, e, R, s, m, args, below, meth, c, Q⟩ := κ
  obtain ⟨hx, hb, hml, hown, hts, hU, hlk, hret, hnm, rfl, hQ⟩ := C
  obtain ⟨X1, rfl⟩ := X
  have hK := hU.2.2.2
  intro H locs ls hP hS hl
  have hk8 : Cond.classLink "ReflectMirror" 134 "java/lang/IllegalArgumentException" ∈ lw_all := q1386
  have hi8 : Cond.initialized "java/lang/IllegalArgumentException" ∈ lw_all := q124
  exact vx_throw0 hx hb hZ.1 hown (by decide +kernel) (by decide +kernel) (hts _ hk8) (hts _ hi8) (fun w hw => (xat_use hT hU hts (xat_I0 w hw)).1) (fun w hw => by
    rcases List.mem_cons.mp hw with rfl | hw
    · exact (xat_use (args := args) hT hU hts (Or.inl hk8)).2
    · rcases List.mem_cons.mp hw with rfl | hw
      · exact (xat_use (args := args) hT hU hts (Or.inl hi8)).2
      · exact (xat_use (args := args) hT hU hts (xat_I0 w hw)).2) (hZ.U hU) (hZ.N hU) hS hl.1 d0 d3 d4 d7 (fun x hx9 => by rw [X1] at hx9; cases hx9) (by simp only [List.length_cons, List.length_nil]; omega) (by simp only [List.length_cons, List.length_nil]; omega) hce hsl hlk (fun q9 t hW h1 h2 => ⟨⟨zP θ M N, hPX q9, hP.grow h2⟩, (va_S.mk_ hS h1 h2).F rfl⟩) hS.2.2 hce hsl
theorem zx_throwS {hh : List (Nat × Nat × Nat × Nat)} {PX : String → Nat → (Heap → Prop) → Prop} (C : ZC κ "ReflectMirror" nm cc nL ret rm P) (hκ : κ.1 = θ) (hκl : κ.2.2.1 = l) (hT : zTb θ) (hZ : zTx θ l) (X : ZX κ [] rm P PX) (d0 : decode cc pc = .ok (.new 266, 3)) (d3 : decode cc (pc + 3) = .ok (.dup, 1)) (d4 : decode cc (pc + 4) = .ok (.invokespecial 268, 3)) (d7 : decode cc (pc + 7) = .ok (.athrow, 1)) (hf : 9 ≤ rm.frames) (hlo : 10250 ≤ rm.locals) (hsz : (rest.map fun v => v.category).sum ≤ 8) (hce : n + 1 ≤ rm.cells) (hsl : k + 6 ≤ rm.slots) (hPX : ∀ b : Nat, PX "java/lang/ArrayStoreException" b (zP θ M N)) : Z κ (zP θ M N) n k pc lv rest := by
  subst hκ; subst hκl
  obtain ⟨θ, p, l, e, R, s, m, args, below, meth, c, Q⟩ := κ
  obtain ⟨hx, hb, hml, hown, hts, hU, hlk, hret, hnm, rfl, hQ⟩ := C
  obtain ⟨X1, rfl⟩ := X
  have hK := hU.2.2.2
  intro H locs ls hP hS hl
  have hk8 : Cond.classLink "ReflectMirror" 266 "java/lang/ArrayStoreException" ∈ lw_all := q1441
  have hi8 : Cond.initialized "java/lang/ArrayStoreException" ∈ lw_all := q127
  exact vx_throw0 hx hb hZ.1 hown (by decide +kernel) (by decide +kernel) (hts _ hk8) (hts _ hi8) (fun w hw => (xat_use hT hU hts (xat_S0 w hw)).1) (fun w hw => by
    rcases List.mem_cons.mp hw with rfl | hw
    · exact (xat_use (args := args) hT hU hts (Or.inl hk8)).2
    · rcases List.mem_cons.mp hw with rfl | hw
      · exact (xat_use (args := args) hT hU hts (Or.inl hi8)).2
      · exact (xat_use (args := args) hT hU hts (xat_S0 w hw)).2) (hZ.U hU) (hZ.N hU) hS hl.1 d0 d3 d4 d7 (fun x hx9 => by rw [X1] at hx9; cases hx9) (by simp only [List.length_cons, List.length_nil]; omega) (by simp only [List.length_cons, List.length_nil]; omega) hce hsl hlk (fun q9 t hW h1 h2 => ⟨⟨zP θ M N, hPX q9, hP.grow h2⟩, (va_S.mk_ hS h1 h2).F rfl⟩) hS.2.2 hce hsl
end ZXRows
