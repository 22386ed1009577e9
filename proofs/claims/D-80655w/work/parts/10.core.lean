/-! CORE: pictures as partial maps, one judgement Z, one form of contract -/
/-- arrays' classes by number; the first state -/
abbrev zTh : Type := va_G × (Nat → ClassId) × State
abbrev zK : Type := zTh × Program × Launch × Env × Room × State × MethodId × Array Value × List Frame × Method × Code × (State → Prop)
abbrev zMap : Type := Nat → Option va_E
abbrev zCl : List vw_C := [(RX0, TX0, 14), (RX1, TX1, 1), (RX3, TX3, 8), (RX3, TX3, 8), (RX4, TX4, 8), (RX5, TX5, 10), (RX6, TX6, 3), (RX7, TX7, 52), (RX8, TX8, 10), (RX9, TX9, 12), (RX3, TX3, 8), (RX11, TX11, 3), (RX12, TX12, 4), (RX13, TX13, 4), (RX14, TX14, 6), (RX15, TX15, 4), (RX16, TX16, 4), (RX17, TX17, 6), (RX18, TX18, 5), (RX3, TX3, 8), (RX20, TX20, 6), (RX21, TX21, 6), (RX22, TX22, 5), (RX3, TX3, 8), (RX24, TX24, 4), (RX25, TX25, 7), (RX26, TX26, 4), (RX27, TX27, 5)]
abbrev zTys (θ : zTh) : List (ClassId × FieldType) := [(θ.2.1 0, .boolean), (θ.2.1 1, .char), (θ.2.1 2, .byte), (θ.2.1 3, .short), (θ.2.1 4, .int), (θ.2.1 5, .long), (θ.2.1 6, .float), (θ.2.1 7, .double), (θ.2.1 8, .object "ReflectMirror$Type"), (θ.2.1 9, .object "ReflectMirror$Member"), (θ.2.1 10, .object "ReflectMirror$Thing"), (θ.2.1 11, .object "ReflectMirror$Cell"), (θ.2.1 12, .object "ReflectMirror$One"), (θ.2.1 13, .object "ReflectMirror$Many"), (θ.2.1 14, .object "java/lang/Object")]
def zA (θ : zTh) : Nat → Prop := fun q => θ.2.2.heap.size ≤ q
/-- a state behind the first one: what was there then is unchanged; the classes are as known -/
def zU (θ : zTh) (U : State) : Prop := θ.2.2.WarmedH U.vm ∧ θ.2.2.heap.size ≤ U.heap.size ∧ (∀ q : Nat, q < θ.2.2.heap.size → U.heap[q]? = θ.2.2.heap[q]?) ∧ va_K θ.1 zCl (zTys θ) U
theorem zU.on {θ : zTh} {s U : State} {H : Heap} {locs : List Loc} (h : zU θ s) (hS : va_S (zA θ) s.heap H locs) (hH : U.heap = H) (hW : s.WarmedH U.vm) : zU θ U := by
  obtain ⟨h1, h2, h3, h4⟩ := h
  refine ⟨State.WarmedH.trans h1 hW, by rw [hH]; exact Nat.le_trans h2 hS.1, fun q hq => ?_, va_K.moved hW.alike h4⟩
  rw [hH, hS.2.1 q (Nat.lt_of_lt_of_le hq h2) (fun z => by have : θ.2.2.heap.size ≤ q := z; omega)]
  exact h3 q hq
/-- the heap holds the cells of M and those of N, which are others -/
def zP (θ : zTh) (M N : zMap) (H : Heap) : Prop := (∀ a e, M a = some e → va_at θ.1 zCl (a, e) H ∧ zA θ a) ∧ (∀ a e, N a = some e → va_at θ.1 zCl (a, e) H ∧ zA θ a) ∧ ∀ a, M a ≠ none → N a = none
def zup (M : zMap) (a : Nat) (e : va_E) : zMap := fun b => if b = a then some e else M b
theorem zup_s {M : zMap} {a : Nat} {e : va_E} : zup M a e a = some e := by simp [zup]
theorem zup_n {M : zMap} {a b : Nat} {e : va_E} (h : b ≠ a) : zup M a e b = M b := by simp [zup, h]
def zL (M N : zMap) (ws : va_W) : Prop := (∀ (k : Nat) (q : Nat × va_E), ws[k]? = some q → M q.1 = some q.2 ∨ N q.1 = some q.2) ∧ (∀ a e, M a = some e → ∃ k : Nat, ws[k]? = some (a, e)) ∧ ∀ a e, N a = some e → ∃ k : Nat, ws[k]? = some (a, e)
theorem zP.ws {θ : zTh} {M N : zMap} {H : Heap} (h : zP θ M N H) : ∃ ws : va_W, va_P θ.1 zCl ws H ∧ va_D (zA θ) ws ∧ zL M N ws := by
  obtain ⟨h1, h2, h3⟩ := h
  let F : Nat → Option (Nat × va_E) := fun a => match M a with | some e => some (a, e) | none => (N a).map (fun e => (a, e))
  have hF : ∀ a q, F a = some q → q.1 = a ∧ (M a = some q.2 ∨ N a = some q.2) := by
    intro a q hq
    simp only [F] at hq
    cases hm : M a with
    | some e => rw [hm] at hq; cases hq; exact ⟨rfl, Or.inl rfl⟩
    | none =>
      rw [hm] at hq
      cases hn : N a with
      | none => rw [hn] at hq; cases hq
      | some e => rw [hn] at hq; cases hq; exact ⟨rfl, Or.inr rfl⟩
  have hM : ∀ a e, M a = some e → F a = some (a, e) := by intro a e he; simp only [F, he]
  have hN : ∀ a e, N a = some e → F a = some (a, e) := by
    intro a e he
    have hm : M a = none := by
      cases hm : M a with
      | none => rfl
      | some x => have := h3 a (by rw [hm]; simp); rw [he] at this; cases this
    simp only [F, hm, he]; rfl
  have key : ∀ (n : Nat), ∃ ws : va_W, (∀ (k : Nat) (q : Nat × va_E), ws[k]? = some q → q.1 < n ∧ F q.1 = some q) ∧ (∀ a q, a < n → F a = some q → ∃ k : Nat, ws[k]? = some q) ∧ (∀ (i j : Nat) (p q : Nat × va_E), ws[i]? = some p → ws[j]? = some q → p.1 = q.1 → i = j) := by
    intro n
    induction n with
    | zero => exact ⟨[], fun k q hk => by simp at hk, fun a q ha => absurd ha (by omega), fun i j p q hi => by simp at hi⟩
    | succ n ih =>
      obtain ⟨ws, a1, a2, a3⟩ := ih
      cases hf : F n with
      | none =>
        refine ⟨ws, fun k q hk => ⟨by have := (a1 k q hk).1; omega, (a1 k q hk).2⟩, fun a q ha hq => ?_, a3⟩
        rcases Nat.lt_or_ge a n with hl | hl
        · exact a2 a q hl hq
        · have : a = n := by omega
          subst this; rw [hf] at hq; cases hq
      | some x =>
        have hx := hF n x hf
        have sp : ∀ (k : Nat) (q : Nat × va_E), (ws ++ [x])[k]? = some q → (k < ws.length ∧ ws[k]? = some q) ∨ (k = ws.length ∧ q = x) := by
          intro k q hk
          by_cases hl : k < ws.length
          · rw [List.getElem?_append_left hl] at hk; exact Or.inl ⟨hl, hk⟩
          · rw [List.getElem?_append_right (by omega)] at hk
            have hz : k - ws.length < 1 := (List.getElem?_eq_some_iff.mp hk).1
            have hk0 : k = ws.length := by omega
            subst hk0
            rw [Nat.sub_self] at hk
            cases hk
            exact Or.inr ⟨rfl, rfl⟩
        refine ⟨ws ++ [x], fun k q hk => ?_, fun a q ha hq => ?_, fun i j p q hi hj hpq => ?_⟩
        · rcases sp k q hk with ⟨-, h⟩ | ⟨-, rfl⟩
          · exact ⟨by have := (a1 k q h).1; omega, (a1 k q h).2⟩
          · rw [hx.1]; exact ⟨by omega, hf⟩
        · rcases Nat.lt_or_ge a n with hl | hl
          · obtain ⟨k, hk⟩ := a2 a q hl hq
            exact ⟨k, by rw [List.getElem?_append_left (List.getElem?_eq_some_iff.mp hk).1]; exact hk⟩
          · have : a = n := by omega
            subst this; rw [hf] at hq; cases hq
            exact ⟨ws.length, by rw [List.getElem?_append_right (Nat.le_refl _), Nat.sub_self]; rfl⟩
        · rcases sp i p hi with ⟨l1, b1⟩ | ⟨l1, b1⟩ <;> rcases sp j q hj with ⟨l2, b2⟩ | ⟨l2, b2⟩
          · exact a3 i j p q b1 b2 hpq
          · have := (a1 i p b1).1; rw [hpq, b2, hx.1] at this; omega
          · have := (a1 j q b2).1; rw [← hpq, b1, hx.1] at this; omega
          · omega
  obtain ⟨ws, a1, a2, a3⟩ := key H.size
  have hin : ∀ (k : Nat) (q : Nat × va_E), ws[k]? = some q → M q.1 = some q.2 ∨ N q.1 = some q.2 := fun k q hk => (hF _ _ (a1 k q hk).2).2
  have hat : ∀ (k : Nat) (q : Nat × va_E), ws[k]? = some q → va_at θ.1 zCl q H ∧ zA θ q.1 := fun k q hk => by
    rcases hin k q hk with h | h
    · exact h1 q.1 q.2 h
    · exact h2 q.1 q.2 h
  exact ⟨ws, fun k q hk => (hat k q hk).1, ⟨a3, fun k q hk => (hat k q hk).2⟩, hin, fun a e he => a2 a (a, e) ((h1 a e he).1.lt) (hM a e he), fun a e he => a2 a (a, e) ((h2 a e he).1.lt) (hN a e he)⟩
theorem zL.set {θ : zTh} {M N : zMap} {ws : va_W} {H H1 : Heap} {a q0 : Nat} {e0 e : va_E} (hz : zP θ M N H) (hD : va_D (zA θ) ws) (h : zL M N ws) (ha : M a = some e0) (hq : ws[q0]? = some (a, e0)) (hP : va_P θ.1 zCl (ws.set q0 (a, e)) H1) : zP θ (zup M a e) N H1 := by
  obtain ⟨g1, g2, g3⟩ := hz
  obtain ⟨h1, h2, h3⟩ := h
  have hl := (List.getElem?_eq_some_iff.mp hq).1
  have hne : ∀ (k : Nat) (b : Nat) (eb : va_E), ws[k]? = some (b, eb) → b ≠ a → (ws.set q0 (a, e))[k]? = some (b, eb) := by
    intro k b eb hk hb
    have : q0 ≠ k := by
      intro h; subst h; rw [hq] at hk; cases hk; exact hb rfl
    rw [List.getElem?_set_ne this]; exact hk
  have hNa : N a = none := g3 a (by rw [ha]; simp)
  refine ⟨fun b eb hb => ?_, fun b eb hb => ?_, fun b hb => ?_⟩
  · by_cases hba : b = a
    · subst hba
      rw [zup_s] at hb; cases hb
      exact ⟨hP q0 _ (List.getElem?_set_self hl), hD.2 q0 _ hq⟩
    · rw [zup_n hba] at hb
      obtain ⟨k, hk⟩ := h2 b eb hb
      exact ⟨hP k _ (hne k b eb hk hba), hD.2 k _ hk⟩
  · have hba : b ≠ a := fun h => by subst h; rw [hNa] at hb; cases hb
    obtain ⟨k, hk⟩ := h3 b eb hb
    exact ⟨hP k _ (hne k b eb hk hba), hD.2 k _ hk⟩
  · by_cases hba : b = a
    · subst hba; exact hNa
    · rw [zup_n hba] at hb; exact g3 b hb
theorem zL.push {θ : zTh} {M N : zMap} {ws : va_W} {H H1 : Heap} {a : Nat} {e : va_E} (hz : zP θ M N H) (hP0 : va_P θ.1 zCl ws H) (h : zL M N ws) (hP : va_P θ.1 zCl (ws ++ [(a, e)]) H1) (hD : va_D (zA θ) (ws ++ [(a, e)])) : zP θ (zup M a e) N H1 ∧ M a = none ∧ N a = none := by
  obtain ⟨g1, g2, g3⟩ := hz
  obtain ⟨h1, h2, h3⟩ := h
  have hlast : (ws ++ [(a, e)])[ws.length]? = some (a, e) := by rw [List.getElem?_append_right (Nat.le_refl _), Nat.sub_self]; rfl
  have hin : ∀ (k : Nat) (q : Nat × va_E), ws[k]? = some q → (ws ++ [(a, e)])[k]? = some q := fun k q hk => by
    rw [List.getElem?_append_left (List.getElem?_eq_some_iff.mp hk).1]; exact hk
  have hfr : ∀ (k : Nat) (q : Nat × va_E), ws[k]? = some q → q.1 ≠ a := fun k q hk hqa => by
    have := hD.1 k ws.length q (a, e) (hin k q hk) hlast hqa
    have := (List.getElem?_eq_some_iff.mp hk).1
    omega
  have hMa : M a = none := by
    cases hm : M a with
    | none => rfl
    | some x => obtain ⟨k, hk⟩ := h2 a x hm; exact absurd rfl (hfr k _ hk)
  have hNa : N a = none := by
    cases hm : N a with
    | none => rfl
    | some x => obtain ⟨k, hk⟩ := h3 a x hm; exact absurd rfl (hfr k _ hk)
  refine ⟨⟨fun b eb hb => ?_, fun b eb hb => ?_, fun b hb => ?_⟩, hMa, hNa⟩
  · by_cases hba : b = a
    · subst hba
      rw [zup_s] at hb; cases hb
      exact ⟨hP _ _ hlast, hD.2 _ _ hlast⟩
    · rw [zup_n hba] at hb
      obtain ⟨k, hk⟩ := h2 b eb hb
      exact ⟨hP k _ (hin k _ hk), hD.2 k _ (hin k _ hk)⟩
  · obtain ⟨k, hk⟩ := h3 b eb hb
    exact ⟨hP k _ (hin k _ hk), hD.2 k _ (hin k _ hk)⟩
  · by_cases hba : b = a
    · subst hba; exact hNa
    · rw [zup_n hba] at hb; exact g3 b hb
/-- the judgement: from a method's frame at pc with the locals lv and the stack st, and any heap of the picture -/
def Z : zK → (Heap → Prop) → Nat → Nat → Nat → List (Nat × Value) → List Value → Prop
  | (θ, p, l, e, R, s, m, args, below, meth, c, Q), Pic, n, k, pc, lv, st => ∀ (H : Heap) (locs : List Loc) (ls : Array Slot), Pic H → va_S (zA θ) s.heap H locs → lv_has ls c.maxLocals lv → W p l e R s m args below meth c H locs n k Q (F0 m pc ls st)
/-- what a body owes at its end -/
def zQc (θ : zTh) (P : Option Value → (Heap → Prop) → Prop) : Array Value → State → Outcome → State → Prop := fun _ st o t => (∃ (v : Option Value) (Pic : Heap → Prop), o = .returned v ∧ P v Pic ∧ Pic t.heap) ∧ va_F (zA θ) st t
/-- what stands still in a body -/
def ZC : zK → String → String → ByteArray → Nat → Option FieldType → Room → (Option Value → (Heap → Prop) → Prop) → Prop
  | (θ, p, l, e, R, s, m, args, below, meth, c, Q), own, nm, cc, nL, ret, rm, P => p.tables.exec = Jvm.exec ∧ c.code = cc ∧ c.maxLocals = nL ∧ s.vm.findClass own = some m.cls ∧ (∀ w ∈ lw_all, w.before args s = true) ∧ zU θ s ∧ meth.locks = false ∧ meth.sig.returnType = ret ∧ meth.name = nm ∧ R = rm ∧
    ∀ (H : Heap) (locs : List Loc) (n k : Nat) (g : JFrame), W p l e R s m args below meth c H locs n k (MQ below (zQc θ P) args s rm.cells rm.slots (zA θ)) g → W p l e R s m args below meth c H locs n k Q g
def zPc (θ : zTh) (As : List Value) (Pic : Heap → Prop) : Array Value → State → Prop := va_Pc As (fun U => Pic U.heap ∧ zU θ U)
/-- a method's contract: from the picture Pic with the arguments As it returns, and P holds of what it answers and of the picture then -/
def ZM (θ : zTh) (l : Launch) (y : MethodName) (cc : ByteArray) (nL : Nat) (ret : Option FieldType) (rm : Room) (As : List Value) (Pic : Heap → Prop) (P : Option Value → (Heap → Prop) → Prop) : Prop :=
  Met l y (ws_ y cc nL ret) rm (zPc θ As Pic) (zQc θ P) rm.cells rm.slots (zA θ)
theorem zPc_blind {θ : zTh} {As : List Value} {Pic : Heap → Prop} : FrameBlind (zPc θ As Pic) := by
  intro a U g mk h
  obtain ⟨h1, h2, h3, h4, h5, h6⟩ := h
  exact ⟨h1, h2, h3, h4, h5, va_K.moved (u := U) (U := U.calling g mk a) (Vm.Alike.refl U.vm) h6⟩
theorem z_start {θ : zTh} {l : Launch} {y : MethodName} {cc : ByteArray} {nL : Nat} {ret : Option FieldType} {rm : Room} {As : List Value} {Pic : Heap → Prop} {P : Option Value → (Heap → Prop) → Prop} {own nm : String} (hy : plainName y.cls = true) (ho : y.cls = own) (hnm : y.name = nm) (hn : (lg_sl As).length ≤ nL)
    (body : ∀ κ : zK, κ.1 = θ → κ.2.2.1 = l → ZC κ own nm cc nL ret rm P → Z κ Pic 0 0 0 (lv_args 0 As) []) : ZM θ l y cc nL ret rm As Pic P := by
  refine Met.ofW (cc := cc) (maxL := nL) (ret := ret) hy rfl ?_
  intro p e s m args below meth c s₁ B hml hv
  obtain ⟨rfl, hP, hU⟩ := hv
  have hts := atoms_spec (ws := ws_ y cc nL ret) B.pre
  have hts : ∀ w ∈ lw_all, w.before _ s = true := fun w h => hts w (List.mem_cons_of_mem _ h)
  have hown : s.vm.findClass y.cls = some m.cls := findClass_of_methodNamed B.named
  rw [ho] at hown
  have hl := lv_entry As (n := nL) hn
  rw [lg_entry_eq]
  exact body (θ, p, l, e, rm, s, m, As.toArray, below, meth, c, MQ below (zQc θ P) As.toArray s rm.cells rm.slots (zA θ)) rfl rfl ⟨B.exec, B.bytes, hml, hown, hts, hU, B.notSynchronized, B.returns, by rw [← hnm]; exact (name_of_methodNamed B.named B.method).1, rfl, fun _ _ _ _ _ h => h⟩ s.heap [] _ hP va_S.rf (by rw [hml]; exact hl)
section ZR
variable {κ : zK} {own : String} {cc : ByteArray} {nL : Nat} {ret : Option FieldType} {rm : Room} {P : Option Value → (Heap → Prop) → Prop} {Pic : Heap → Prop} {n k pc : Nat} {lv : List (Nat × Value)} {st rest : List Value}
theorem z_pic {Pic' : Heap → Prop} (h : ∀ H, Pic H → Pic' H) (kk : Z κ Pic' n k pc lv st) : Z κ Pic n k pc lv st := by
  obtain ⟨θ, p, l, e, R, s, m, args, below, meth, c, Q⟩ := κ
  intro H locs ls hP hS hl
  exact kk H locs ls (h H hP) hS hl
theorem z_fact {φ : Prop} (h : ∀ H, Pic H → φ) (kk : φ → Z κ Pic n k pc lv st) : Z κ Pic n k pc lv st := by
  obtain ⟨θ, p, l, e, R, s, m, args, below, meth, c, Q⟩ := κ
  intro H locs ls hP hS hl
  exact kk (h H hP) H locs ls hP hS hl
theorem z_widen {n' k' : Nat} (h1 : n ≤ n') (h2 : k ≤ k') (kk : Z κ Pic n' k' pc lv st) : Z κ Pic n k pc lv st := by
  obtain ⟨θ, p, l, e, R, s, m, args, below, meth, c, Q⟩ := κ
  intro H locs ls hP hS hl
  exact W.widen h1 h2 (kk H locs ls hP hS hl)
/-- fewer locals, in another order -/
theorem z_sub (ks : List Nat) {lv' : List (Nat × Value)} (h : lv_pick lv ks = lv') (kk : Z κ Pic n k pc lv' st) : Z κ Pic n k pc lv st := by
  obtain ⟨θ, p, l, e, R, s, m, args, below, meth, c, Q⟩ := κ
  intro H locs ls hP hS hl
  exact kk H locs ls hP hS (lv_sub hl ks h)
theorem z_as {lv' : List (Nat × Value)} {st' : List Value} {Pic' : Heap → Prop} (h1 : Pic = Pic') (h2 : lv = lv') (h3 : st = st') (kk : Z κ Pic' n k pc lv' st') : Z κ Pic n k pc lv st := by
  subst h1; subst h2; subst h3; exact kk
end ZR
def iI (z : Int) : Int32 := Int32.ofInt z
def lI (z : Int) : Int64 := Int64.ofInt z
def inR (z : Int) : Prop := -2147483648 ≤ z ∧ z ≤ 2147483647
def inL (z : Int) : Prop := -9223372036854775808 ≤ z ∧ z ≤ 9223372036854775807
def bI (b : Bool) : Int := if b then 1 else 0
def zcmp (x y : Int) : Int := if x < y then -1 else if x = y then 0 else 1
theorem iI_toInt {z : Int} (h : inR z) : (iI z).toInt = z := Int32.toInt_ofInt_of_le (by have := h.1; omega) (by have := h.2; omega)
theorem lI_toInt {z : Int} (h : inL z) : (lI z).toInt = z := Int64.toInt_ofInt_of_le (by have := h.1; omega) (by have := h.2; omega)
theorem iI_of (x : Int32) : x = iI x.toInt := (Int32.ofInt_toInt x).symm
theorem lI_of (x : Int64) : x = lI x.toInt := (Int64.ofInt_toInt x).symm
theorem inR_of (x : Int32) : inR x.toInt := by
  have h1 := Int32.minValue_le_toInt x
  have h2 := Int32.toInt_lt x
  have e : Int32.minValue.toInt = -2147483648 := by decide
  exact ⟨by omega, by omega⟩
theorem inL_of (x : Int64) : inL x.toInt := by
  have h1 := Int64.minValue_le_toInt x
  have h2 := Int64.toInt_lt x
  have e : Int64.minValue.toInt = -9223372036854775808 := by decide
  exact ⟨by omega, by omega⟩
theorem iI_inj {a b : Int} (ha : inR a) (hb : inR b) : iI a = iI b ↔ a = b := ⟨fun h => by rw [← iI_toInt ha, ← iI_toInt hb, h], fun h => by rw [h]⟩
theorem lI_inj {a b : Int} (ha : inL a) (hb : inL b) : lI a = lI b ↔ a = b := ⟨fun h => by rw [← lI_toInt ha, ← lI_toInt hb, h], fun h => by rw [h]⟩
theorem iI_lt {a b : Int} (ha : inR a) (hb : inR b) : iI a < iI b ↔ a < b := by rw [Int32.lt_iff_toInt_lt, iI_toInt ha, iI_toInt hb]
theorem iI_le {a b : Int} (ha : inR a) (hb : inR b) : iI a ≤ iI b ↔ a ≤ b := by rw [Int32.le_iff_toInt_le, iI_toInt ha, iI_toInt hb]
theorem lI_lt {a b : Int} (ha : inL a) (hb : inL b) : lI a < lI b ↔ a < b := by rw [Int64.lt_iff_toInt_lt, lI_toInt ha, lI_toInt hb]
theorem iI_add (a b : Int) : iI a + iI b = iI (a + b) := (Int32.ofInt_add a b).symm
theorem iI_sub (a b : Int) : iI a - iI b = iI (a - b) := (Int32.ofInt_sub a b).symm
theorem iI_mul (a b : Int) : iI a * iI b = iI (a * b) := (Int32.ofInt_mul a b).symm
theorem iI_neg (a : Int) : -iI a = iI (-a) := (Int32.ofInt_neg a).symm
theorem lI_add (a b : Int) : lI a + lI b = lI (a + b) := (Int64.ofInt_add a b).symm
theorem lI_sub (a b : Int) : lI a - lI b = lI (a - b) := (Int64.ofInt_sub a b).symm
theorem lI_mul (a b : Int) : lI a * lI b = lI (a * b) := (Int64.ofInt_mul a b).symm
theorem lI_neg (a : Int) : -lI a = lI (-a) := (Int64.ofInt_neg a).symm
theorem iI_long {a : Int} (h : inR a) : (iI a).toInt64 = lI a := by
  apply Int64.toInt_inj.mp
  rw [Int32.toInt_toInt64, iI_toInt h, lI_toInt ⟨by have := h.1; omega, by have := h.2; omega⟩]
theorem lI_int (a : Int) : (lI a).toInt32 = iI a := Int64.toInt32_ofInt
theorem inR_L {a : Int} (h : inR a) : inL a := ⟨by have := h.1; omega, by have := h.2; omega⟩
theorem inR_b (b : Bool) : inR (bI b) := by cases b <;> exact ⟨by decide, by decide⟩
theorem bI_0 {b : Bool} : bI b = 0 ↔ b = false := by cases b <;> decide
theorem bI_n {b : Bool} : ¬ bI b = 0 ↔ b = true := by cases b <;> decide
theorem inR_zcmp (x y : Int) : inR (zcmp x y) := by
  unfold zcmp
  split
  · exact ⟨by decide, by decide⟩
  · split <;> exact ⟨by decide, by decide⟩
theorem zlg_cmp {a b : Int} (ha : inL a) (hb : inL b) : lg_cmp (lI a) (lI b) = iI (zcmp a b) := by
  unfold lg_cmp zcmp
  have h1 : (lI a > lI b) ↔ b < a := lI_lt hb ha
  have h2 := lI_inj ha hb
  by_cases h : a < b
  · rw [if_neg (by rw [h1]; omega), if_neg (by rw [h2]; omega), if_pos h]; rfl
  · by_cases h' : a = b
    · rw [if_neg (by rw [h1]; omega), if_pos (h2.mpr h'), if_neg h, if_pos h']; rfl
    · rw [if_pos (h1.mpr (by omega)), if_neg h, if_neg h']; rfl
/-- the bits of two numbers -/
def zand (a b : Int) : Int := (iI a &&& iI b).toInt
def zor (a b : Int) : Int := (iI a ||| iI b).toInt
def zlandd (a b : Int) : Int := (lI a &&& lI b).toInt
def zlorr (a b : Int) : Int := (lI a ||| lI b).toInt
theorem zand_eq (a b : Int) : iI a &&& iI b = iI (zand a b) := iI_of _
theorem zor_eq (a b : Int) : iI a ||| iI b = iI (zor a b) := iI_of _
theorem zlandd_eq (a b : Int) : lI a &&& lI b = lI (zlandd a b) := lI_of _
theorem zlorr_eq (a b : Int) : lI a ||| lI b = lI (zlorr a b) := lI_of _
theorem inR_zand (a b : Int) : inR (zand a b) := inR_of _
theorem inR_zor (a b : Int) : inR (zor a b) := inR_of _
theorem inL_zland (a b : Int) : inL (zlandd a b) := inL_of _
theorem inL_zlor (a b : Int) : inL (zlorr a b) := inL_of _
def zst1 (lv : List (Nat × Value)) (i : Nat) (v : Value) : List (Nat × Value) := (i, v) :: lv.filter (fun q => !(q.1 == i) && !(q.1 + 1 == i && q.2.category == 2))
def zst2 (lv : List (Nat × Value)) (i : Nat) (v : Value) : List (Nat × Value) := (i, v) :: lv.filter (fun q => !(q.1 == i) && (!(q.1 == i + 1) && !(q.1 + 1 == i && q.2.category == 2)))
section ZRow
variable {κ : zK} {own nm : String} {cc : ByteArray} {nL : Nat} {ret : Option FieldType} {rm : Room} {P : Option Value → (Heap → Prop) → Prop} {Pic : Heap → Prop} {n k pc : Nat} {lv : List (Nat × Value)} {st rest : List Value}
theorem z_iconst (C : ZC κ own nm cc nL ret rm P) {z : Int} (q : Nat) (d : decode cc pc = .ok (.iconst z, 1)) (hq : pc + 1 = q) (kk : Z κ Pic n k q lv (.int (iI z) :: rest)) : Z κ Pic n k pc lv (rest) := by
  obtain ⟨θ, p, l, e, R, s, m, args, below, meth, c, Q⟩ := κ
  obtain ⟨hx, hb, hml, hown, hts, hU, hlk, hret, hnm, hR, hQ⟩ := C
  subst hq
  intro H locs ls hP hS hl
  exact lv_iconst hx hb d rfl (kk H locs ls hP hS hl)
theorem z_bipush (C : ZC κ own nm cc nL ret rm P) {z : Int} (q : Nat) (d : decode cc pc = .ok (.bipush z, 2)) (hv : (Int8.ofInt z).toInt32 = iI z) (hq : pc + 2 = q) (kk : Z κ Pic n k q lv (.int (iI z) :: rest)) : Z κ Pic n k pc lv (rest) := by
  obtain ⟨θ, p, l, e, R, s, m, args, below, meth, c, Q⟩ := κ
  obtain ⟨hx, hb, hml, hown, hts, hU, hlk, hret, hnm, hR, hQ⟩ := C
  subst hq
  intro H locs ls hP hS hl
  exact lv_bipush hx hb d hv (kk H locs ls hP hS hl)
theorem z_sipush (C : ZC κ own nm cc nL ret rm P) {z : Int} (q : Nat) (d : decode cc pc = .ok (.sipush z, 3)) (hv : (Int16.ofInt z).toInt32 = iI z) (hq : pc + 3 = q) (kk : Z κ Pic n k q lv (.int (iI z) :: rest)) : Z κ Pic n k pc lv (rest) := by
  obtain ⟨θ, p, l, e, R, s, m, args, below, meth, c, Q⟩ := κ
  obtain ⟨hx, hb, hml, hown, hts, hU, hlk, hret, hnm, hR, hQ⟩ := C
  subst hq
  intro H locs ls hP hS hl
  exact lv_sipush hx hb d hv (kk H locs ls hP hS hl)
theorem z_lconst (C : ZC κ own nm cc nL ret rm P) {z : Fin 2} {x : Int} (q : Nat) (d : decode cc pc = .ok (.lconst z, 1)) (hv : Int64.ofNat (z : Nat) = lI x) (hq : pc + 1 = q) (kk : Z κ Pic n k q lv (.long (lI x) :: rest)) : Z κ Pic n k pc lv (rest) := by
  obtain ⟨θ, p, l, e, R, s, m, args, below, meth, c, Q⟩ := κ
  obtain ⟨hx, hb, hml, hown, hts, hU, hlk, hret, hnm, hR, hQ⟩ := C
  subst hq
  intro H locs ls hP hS hl
  exact lv_lconst hx hb d hv (kk H locs ls hP hS hl)
theorem z_ldc (C : ZC κ own nm cc nL ret rm P) {index : Nat} {v : Int32} {z : Int} (q : Nat) (d : decode cc pc = .ok (.ldc index, 2)) (hw : (Jvm.Cond.constant own index v) ∈ lw_all) (hv : v = iI z) (hq : pc + 2 = q) (kk : Z κ Pic n k q lv (.int (iI z) :: rest)) : Z κ Pic n k pc lv rest := by
  obtain ⟨θ, p, l, e, R, s, m, args, below, meth, c, Q⟩ := κ
  obtain ⟨hx, hb, hml, hown, hts, hU, hlk, hret, hnm, hR, hQ⟩ := C
  subst hq; subst hv
  intro H locs ls hP hS hl
  exact lv_ldc hx hb hown (hts _ hw) d (kk H locs ls hP hS hl)
theorem z_ldcw (C : ZC κ own nm cc nL ret rm P) {index : Nat} {v : Int32} {z : Int} (q : Nat) (d : decode cc pc = .ok (.ldc_w index, 3)) (hw : (Jvm.Cond.constant own index v) ∈ lw_all) (hv : v = iI z) (hq : pc + 3 = q) (kk : Z κ Pic n k q lv (.int (iI z) :: rest)) : Z κ Pic n k pc lv rest := by
  obtain ⟨θ, p, l, e, R, s, m, args, below, meth, c, Q⟩ := κ
  obtain ⟨hx, hb, hml, hown, hts, hU, hlk, hret, hnm, hR, hQ⟩ := C
  subst hq; subst hv
  intro H locs ls hP hS hl
  exact lv_ldcw hx hb hown (hts _ hw) d (kk H locs ls hP hS hl)
theorem z_ldc2 (C : ZC κ own nm cc nL ret rm P) {index : Nat} {v : Int64} {z : Int} (q : Nat) (d : decode cc pc = .ok (.ldc2_w index, 3)) (hw : (Jvm.Cond.constantLong own index v) ∈ lw_all) (hv : v = lI z) (hq : pc + 3 = q) (kk : Z κ Pic n k q lv (.long (lI z) :: rest)) : Z κ Pic n k pc lv rest := by
  obtain ⟨θ, p, l, e, R, s, m, args, below, meth, c, Q⟩ := κ
  obtain ⟨hx, hb, hml, hown, hts, hU, hlk, hret, hnm, hR, hQ⟩ := C
  subst hq; subst hv
  intro H locs ls hP hS hl
  exact lv_ldc2 hx hb hown (hts _ hw) d (kk H locs ls hP hS hl)
theorem z_ldc2d (C : ZC κ own nm cc nL ret rm P) {index : Nat} {v : UInt64} (q : Nat) (d : decode cc pc = .ok (.ldc2_w index, 3)) (hw : (Jvm.Cond.constantDouble own index v) ∈ lw_all) (hq : pc + 3 = q) (kk : Z κ Pic n k q lv (.double v :: rest)) : Z κ Pic n k pc lv rest := by
  obtain ⟨θ, p, l, e, R, s, m, args, below, meth, c, Q⟩ := κ
  obtain ⟨hx, hb, hml, hown, hts, hU, hlk, hret, hnm, hR, hQ⟩ := C
  subst hq
  intro H locs ls hP hS hl
  exact lv_ldc2d hx hb hown (hts _ hw) d (kk H locs ls hP hS hl)
theorem z_null (C : ZC κ own nm cc nL ret rm P) (q : Nat) (d : decode cc pc = .ok (.aconst_null, 1)) (hq : pc + 1 = q) (kk : Z κ Pic n k q lv (.null :: rest)) : Z κ Pic n k pc lv (rest) := by
  obtain ⟨θ, p, l, e, R, s, m, args, below, meth, c, Q⟩ := κ
  obtain ⟨hx, hb, hml, hown, hts, hU, hlk, hret, hnm, hR, hQ⟩ := C
  subst hq
  intro H locs ls hP hS hl
  exact lv_null hx hb d (kk H locs ls hP hS hl)
theorem z_dconst0 (C : ZC κ own nm cc nL ret rm P) (q : Nat) (d : decode cc pc = .ok (.dconst 0, 1)) (hq : pc + 1 = q) (kk : Z κ Pic n k q lv (.double 0 :: rest)) : Z κ Pic n k pc lv (rest) := by
  obtain ⟨θ, p, l, e, R, s, m, args, below, meth, c, Q⟩ := κ
  obtain ⟨hx, hb, hml, hown, hts, hU, hlk, hret, hnm, hR, hQ⟩ := C
  subst hq
  intro H locs ls hP hS hl
  exact lv_dconst0 hx hb d (kk H locs ls hP hS hl)
theorem z_dconst1 (C : ZC κ own nm cc nL ret rm P) (q : Nat) (d : decode cc pc = .ok (.dconst 1, 1)) (hq : pc + 1 = q) (kk : Z κ Pic n k q lv (.double 0x3ff0000000000000 :: rest)) : Z κ Pic n k pc lv (rest) := by
  obtain ⟨θ, p, l, e, R, s, m, args, below, meth, c, Q⟩ := κ
  obtain ⟨hx, hb, hml, hown, hts, hU, hlk, hret, hnm, hR, hQ⟩ := C
  subst hq
  intro H locs ls hP hS hl
  exact lv_dconst1 hx hb d (kk H locs ls hP hS hl)
theorem z_iload_n (C : ZC κ own nm cc nL ret rm P) {i : Fin 4} {x : Int32} (q j : Nat) (d : decode cc pc = .ok (.iload_n i, 1)) (hj : lv[j]? = some ((i : Nat), .int x)) (hq : pc + 1 = q) (kk : Z κ Pic n k q lv (.int x :: rest)) : Z κ Pic n k pc lv rest := by
  obtain ⟨θ, p, l, e, R, s, m, args, below, meth, c, Q⟩ := κ
  obtain ⟨hx, hb, hml, hown, hts, hU, hlk, hret, hnm, hR, hQ⟩ := C
  subst hq
  intro H locs ls hP hS hl
  exact lv_iload_n hx hb d rfl (lv_at hl j hj) (kk H locs ls hP hS hl)
theorem z_iload (C : ZC κ own nm cc nL ret rm P) {i : Nat} {x : Int32} (q j : Nat) (d : decode cc pc = .ok (.iload i, 2)) (hj : lv[j]? = some (i, .int x)) (hq : pc + 2 = q) (kk : Z κ Pic n k q lv (.int x :: rest)) : Z κ Pic n k pc lv rest := by
  obtain ⟨θ, p, l, e, R, s, m, args, below, meth, c, Q⟩ := κ
  obtain ⟨hx, hb, hml, hown, hts, hU, hlk, hret, hnm, hR, hQ⟩ := C
  subst hq
  intro H locs ls hP hS hl
  exact lv_iload hx hb d (lv_at hl j hj) (kk H locs ls hP hS hl)
theorem z_istore_n (C : ZC κ own nm cc nL ret rm P) {i : Fin 4} {x : Int32} {lv' : List (Nat × Value)} (q : Nat) (ks : List Nat) (d : decode cc pc = .ok (.istore_n i, 1)) (hn : (i : Nat) < nL) (hk : lv_pick (zst1 lv (i : Nat) (.int x)) ks = lv') (hq : pc + 1 = q) (kk : Z κ Pic n k q lv' rest) : Z κ Pic n k pc lv (.int x :: rest) := by
  obtain ⟨θ, p, l, e, R, s, m, args, below, meth, c, Q⟩ := κ
  obtain ⟨hx, hb, hml, hown, hts, hU, hlk, hret, hnm, hR, hQ⟩ := C
  subst hq
  intro H locs ls hP hS hl
  exact lv_istore_n hx hb d rfl hl (by rw [hml]; exact hn) rfl (fun ls hl => kk H locs ls hP hS (lv_sub hl ks hk))
theorem z_istore (C : ZC κ own nm cc nL ret rm P) {i : Nat} {x : Int32} {lv' : List (Nat × Value)} (q : Nat) (ks : List Nat) (d : decode cc pc = .ok (.istore i, 2)) (hn : i < nL) (hk : lv_pick (zst1 lv i (.int x)) ks = lv') (hq : pc + 2 = q) (kk : Z κ Pic n k q lv' rest) : Z κ Pic n k pc lv (.int x :: rest) := by
  obtain ⟨θ, p, l, e, R, s, m, args, below, meth, c, Q⟩ := κ
  obtain ⟨hx, hb, hml, hown, hts, hU, hlk, hret, hnm, hR, hQ⟩ := C
  subst hq
  intro H locs ls hP hS hl
  exact lv_istore hx hb d hl (by rw [hml]; exact hn) rfl (fun ls hl => kk H locs ls hP hS (lv_sub hl ks hk))
theorem z_lload_n (C : ZC κ own nm cc nL ret rm P) {i : Fin 4} {x : Int64} (q j : Nat) (d : decode cc pc = .ok (.lload_n i, 1)) (hj : lv[j]? = some ((i : Nat), .long x)) (hq : pc + 1 = q) (kk : Z κ Pic n k q lv (.long x :: rest)) : Z κ Pic n k pc lv rest := by
  obtain ⟨θ, p, l, e, R, s, m, args, below, meth, c, Q⟩ := κ
  obtain ⟨hx, hb, hml, hown, hts, hU, hlk, hret, hnm, hR, hQ⟩ := C
  subst hq
  intro H locs ls hP hS hl
  exact lv_lload_n hx hb d rfl (lv_at hl j hj) (kk H locs ls hP hS hl)
theorem z_lload (C : ZC κ own nm cc nL ret rm P) {i : Nat} {x : Int64} (q j : Nat) (d : decode cc pc = .ok (.lload i, 2)) (hj : lv[j]? = some (i, .long x)) (hq : pc + 2 = q) (kk : Z κ Pic n k q lv (.long x :: rest)) : Z κ Pic n k pc lv rest := by
  obtain ⟨θ, p, l, e, R, s, m, args, below, meth, c, Q⟩ := κ
  obtain ⟨hx, hb, hml, hown, hts, hU, hlk, hret, hnm, hR, hQ⟩ := C
  subst hq
  intro H locs ls hP hS hl
  exact lv_lload hx hb d (lv_at hl j hj) (kk H locs ls hP hS hl)
theorem z_lstore_n (C : ZC κ own nm cc nL ret rm P) {i : Fin 4} {x : Int64} {lv' : List (Nat × Value)} (q : Nat) (ks : List Nat) (d : decode cc pc = .ok (.lstore_n i, 1)) (hn : (i : Nat) + 1 < nL) (hk : lv_pick (zst2 lv (i : Nat) (.long x)) ks = lv') (hq : pc + 1 = q) (kk : Z κ Pic n k q lv' rest) : Z κ Pic n k pc lv (.long x :: rest) := by
  obtain ⟨θ, p, l, e, R, s, m, args, below, meth, c, Q⟩ := κ
  obtain ⟨hx, hb, hml, hown, hts, hU, hlk, hret, hnm, hR, hQ⟩ := C
  subst hq
  intro H locs ls hP hS hl
  exact lv_lstore_n hx hb d rfl hl (by rw [hml]; exact hn) rfl (fun ls hl => kk H locs ls hP hS (lv_sub hl ks hk))
theorem z_lstore (C : ZC κ own nm cc nL ret rm P) {i : Nat} {x : Int64} {lv' : List (Nat × Value)} (q : Nat) (ks : List Nat) (d : decode cc pc = .ok (.lstore i, 2)) (hn : i + 1 < nL) (hk : lv_pick (zst2 lv i (.long x)) ks = lv') (hq : pc + 2 = q) (kk : Z κ Pic n k q lv' rest) : Z κ Pic n k pc lv (.long x :: rest) := by
  obtain ⟨θ, p, l, e, R, s, m, args, below, meth, c, Q⟩ := κ
  obtain ⟨hx, hb, hml, hown, hts, hU, hlk, hret, hnm, hR, hQ⟩ := C
  subst hq
  intro H locs ls hP hS hl
  exact lv_lstore hx hb d hl (by rw [hml]; exact hn) rfl (fun ls hl => kk H locs ls hP hS (lv_sub hl ks hk))
theorem z_fload_n (C : ZC κ own nm cc nL ret rm P) {i : Fin 4} {x : UInt32} (q j : Nat) (d : decode cc pc = .ok (.fload_n i, 1)) (hj : lv[j]? = some ((i : Nat), .float x)) (hq : pc + 1 = q) (kk : Z κ Pic n k q lv (.float x :: rest)) : Z κ Pic n k pc lv rest := by
  obtain ⟨θ, p, l, e, R, s, m, args, below, meth, c, Q⟩ := κ
  obtain ⟨hx, hb, hml, hown, hts, hU, hlk, hret, hnm, hR, hQ⟩ := C
  subst hq
  intro H locs ls hP hS hl
  exact lv_fload_n hx hb d rfl (lv_at hl j hj) (kk H locs ls hP hS hl)
theorem z_fload (C : ZC κ own nm cc nL ret rm P) {i : Nat} {x : UInt32} (q j : Nat) (d : decode cc pc = .ok (.fload i, 2)) (hj : lv[j]? = some (i, .float x)) (hq : pc + 2 = q) (kk : Z κ Pic n k q lv (.float x :: rest)) : Z κ Pic n k pc lv rest := by
  obtain ⟨θ, p, l, e, R, s, m, args, below, meth, c, Q⟩ := κ
  obtain ⟨hx, hb, hml, hown, hts, hU, hlk, hret, hnm, hR, hQ⟩ := C
  subst hq
  intro H locs ls hP hS hl
  exact lv_fload hx hb d (lv_at hl j hj) (kk H locs ls hP hS hl)
theorem z_fstore_n (C : ZC κ own nm cc nL ret rm P) {i : Fin 4} {x : UInt32} {lv' : List (Nat × Value)} (q : Nat) (ks : List Nat) (d : decode cc pc = .ok (.fstore_n i, 1)) (hn : (i : Nat) < nL) (hk : lv_pick (zst1 lv (i : Nat) (.float x)) ks = lv') (hq : pc + 1 = q) (kk : Z κ Pic n k q lv' rest) : Z κ Pic n k pc lv (.float x :: rest) := by
  obtain ⟨θ, p, l, e, R, s, m, args, below, meth, c, Q⟩ := κ
  obtain ⟨hx, hb, hml, hown, hts, hU, hlk, hret, hnm, hR, hQ⟩ := C
  subst hq
  intro H locs ls hP hS hl
  exact lv_fstore_n hx hb d rfl hl (by rw [hml]; exact hn) rfl (fun ls hl => kk H locs ls hP hS (lv_sub hl ks hk))
theorem z_fstore (C : ZC κ own nm cc nL ret rm P) {i : Nat} {x : UInt32} {lv' : List (Nat × Value)} (q : Nat) (ks : List Nat) (d : decode cc pc = .ok (.fstore i, 2)) (hn : i < nL) (hk : lv_pick (zst1 lv i (.float x)) ks = lv') (hq : pc + 2 = q) (kk : Z κ Pic n k q lv' rest) : Z κ Pic n k pc lv (.float x :: rest) := by
  obtain ⟨θ, p, l, e, R, s, m, args, below, meth, c, Q⟩ := κ
  obtain ⟨hx, hb, hml, hown, hts, hU, hlk, hret, hnm, hR, hQ⟩ := C
  subst hq
  intro H locs ls hP hS hl
  exact lv_fstore hx hb d hl (by rw [hml]; exact hn) rfl (fun ls hl => kk H locs ls hP hS (lv_sub hl ks hk))
theorem z_dload_n (C : ZC κ own nm cc nL ret rm P) {i : Fin 4} {x : UInt64} (q j : Nat) (d : decode cc pc = .ok (.dload_n i, 1)) (hj : lv[j]? = some ((i : Nat), .double x)) (hq : pc + 1 = q) (kk : Z κ Pic n k q lv (.double x :: rest)) : Z κ Pic n k pc lv rest := by
  obtain ⟨θ, p, l, e, R, s, m, args, below, meth, c, Q⟩ := κ
  obtain ⟨hx, hb, hml, hown, hts, hU, hlk, hret, hnm, hR, hQ⟩ := C
  subst hq
  intro H locs ls hP hS hl
  exact lv_dload_n hx hb d rfl (lv_at hl j hj) (kk H locs ls hP hS hl)
theorem z_dload (C : ZC κ own nm cc nL ret rm P) {i : Nat} {x : UInt64} (q j : Nat) (d : decode cc pc = .ok (.dload i, 2)) (hj : lv[j]? = some (i, .double x)) (hq : pc + 2 = q) (kk : Z κ Pic n k q lv (.double x :: rest)) : Z κ Pic n k pc lv rest := by
  obtain ⟨θ, p, l, e, R, s, m, args, below, meth, c, Q⟩ := κ
  obtain ⟨hx, hb, hml, hown, hts, hU, hlk, hret, hnm, hR, hQ⟩ := C
  subst hq
  intro H locs ls hP hS hl
  exact lv_dload hx hb d (lv_at hl j hj) (kk H locs ls hP hS hl)
theorem z_dstore_n (C : ZC κ own nm cc nL ret rm P) {i : Fin 4} {x : UInt64} {lv' : List (Nat × Value)} (q : Nat) (ks : List Nat) (d : decode cc pc = .ok (.dstore_n i, 1)) (hn : (i : Nat) + 1 < nL) (hk : lv_pick (zst2 lv (i : Nat) (.double x)) ks = lv') (hq : pc + 1 = q) (kk : Z κ Pic n k q lv' rest) : Z κ Pic n k pc lv (.double x :: rest) := by
  obtain ⟨θ, p, l, e, R, s, m, args, below, meth, c, Q⟩ := κ
  obtain ⟨hx, hb, hml, hown, hts, hU, hlk, hret, hnm, hR, hQ⟩ := C
  subst hq
  intro H locs ls hP hS hl
  exact lv_dstore_n hx hb d rfl hl (by rw [hml]; exact hn) rfl (fun ls hl => kk H locs ls hP hS (lv_sub hl ks hk))
theorem z_dstore (C : ZC κ own nm cc nL ret rm P) {i : Nat} {x : UInt64} {lv' : List (Nat × Value)} (q : Nat) (ks : List Nat) (d : decode cc pc = .ok (.dstore i, 2)) (hn : i + 1 < nL) (hk : lv_pick (zst2 lv i (.double x)) ks = lv') (hq : pc + 2 = q) (kk : Z κ Pic n k q lv' rest) : Z κ Pic n k pc lv (.double x :: rest) := by
  obtain ⟨θ, p, l, e, R, s, m, args, below, meth, c, Q⟩ := κ
  obtain ⟨hx, hb, hml, hown, hts, hU, hlk, hret, hnm, hR, hQ⟩ := C
  subst hq
  intro H locs ls hP hS hl
  exact lv_dstore hx hb d hl (by rw [hml]; exact hn) rfl (fun ls hl => kk H locs ls hP hS (lv_sub hl ks hk))
theorem z_aload_n (C : ZC κ own nm cc nL ret rm P) {i : Fin 4} {x : Nat} (q j : Nat) (d : decode cc pc = .ok (.aload_n i, 1)) (hj : lv[j]? = some ((i : Nat), .ref x)) (hq : pc + 1 = q) (kk : Z κ Pic n k q lv (.ref x :: rest)) : Z κ Pic n k pc lv rest := by
  obtain ⟨θ, p, l, e, R, s, m, args, below, meth, c, Q⟩ := κ
  obtain ⟨hx, hb, hml, hown, hts, hU, hlk, hret, hnm, hR, hQ⟩ := C
  subst hq
  intro H locs ls hP hS hl
  exact lv_aload_n hx hb d rfl (lv_at hl j hj) (kk H locs ls hP hS hl)
theorem z_aload (C : ZC κ own nm cc nL ret rm P) {i : Nat} {x : Nat} (q j : Nat) (d : decode cc pc = .ok (.aload i, 2)) (hj : lv[j]? = some (i, .ref x)) (hq : pc + 2 = q) (kk : Z κ Pic n k q lv (.ref x :: rest)) : Z κ Pic n k pc lv rest := by
  obtain ⟨θ, p, l, e, R, s, m, args, below, meth, c, Q⟩ := κ
  obtain ⟨hx, hb, hml, hown, hts, hU, hlk, hret, hnm, hR, hQ⟩ := C
  subst hq
  intro H locs ls hP hS hl
  exact lv_aload hx hb d (lv_at hl j hj) (kk H locs ls hP hS hl)
theorem z_astore_n (C : ZC κ own nm cc nL ret rm P) {i : Fin 4} {x : Nat} {lv' : List (Nat × Value)} (q : Nat) (ks : List Nat) (d : decode cc pc = .ok (.astore_n i, 1)) (hn : (i : Nat) < nL) (hk : lv_pick (zst1 lv (i : Nat) (.ref x)) ks = lv') (hq : pc + 1 = q) (kk : Z κ Pic n k q lv' rest) : Z κ Pic n k pc lv (.ref x :: rest) := by
  obtain ⟨θ, p, l, e, R, s, m, args, below, meth, c, Q⟩ := κ
  obtain ⟨hx, hb, hml, hown, hts, hU, hlk, hret, hnm, hR, hQ⟩ := C
  subst hq
  intro H locs ls hP hS hl
  exact lv_astore_n hx hb d rfl hl (by rw [hml]; exact hn) rfl (fun ls hl => kk H locs ls hP hS (lv_sub hl ks hk))
theorem z_astore (C : ZC κ own nm cc nL ret rm P) {i : Nat} {x : Nat} {lv' : List (Nat × Value)} (q : Nat) (ks : List Nat) (d : decode cc pc = .ok (.astore i, 2)) (hn : i < nL) (hk : lv_pick (zst1 lv i (.ref x)) ks = lv') (hq : pc + 2 = q) (kk : Z κ Pic n k q lv' rest) : Z κ Pic n k pc lv (.ref x :: rest) := by
  obtain ⟨θ, p, l, e, R, s, m, args, below, meth, c, Q⟩ := κ
  obtain ⟨hx, hb, hml, hown, hts, hU, hlk, hret, hnm, hR, hQ⟩ := C
  subst hq
  intro H locs ls hP hS hl
  exact lv_astore hx hb d hl (by rw [hml]; exact hn) rfl (fun ls hl => kk H locs ls hP hS (lv_sub hl ks hk))
theorem z_aload_nN (C : ZC κ own nm cc nL ret rm P) {i : Fin 4} (q j : Nat) (d : decode cc pc = .ok (.aload_n i, 1)) (hj : lv[j]? = some ((i : Nat), .null)) (hq : pc + 1 = q) (kk : Z κ Pic n k q lv (.null :: rest)) : Z κ Pic n k pc lv rest := by
  obtain ⟨θ, p, l, e, R, s, m, args, below, meth, c, Q⟩ := κ
  obtain ⟨hx, hb, hml, hown, hts, hU, hlk, hret, hnm, hR, hQ⟩ := C
  subst hq
  intro H locs ls hP hS hl
  exact lv_aload_nN hx hb d rfl (lv_at hl j hj) (kk H locs ls hP hS hl)
theorem z_aloadN (C : ZC κ own nm cc nL ret rm P) {i : Nat} (q j : Nat) (d : decode cc pc = .ok (.aload i, 2)) (hj : lv[j]? = some (i, .null)) (hq : pc + 2 = q) (kk : Z κ Pic n k q lv (.null :: rest)) : Z κ Pic n k pc lv rest := by
  obtain ⟨θ, p, l, e, R, s, m, args, below, meth, c, Q⟩ := κ
  obtain ⟨hx, hb, hml, hown, hts, hU, hlk, hret, hnm, hR, hQ⟩ := C
  subst hq
  intro H locs ls hP hS hl
  exact lv_aloadN hx hb d (lv_at hl j hj) (kk H locs ls hP hS hl)
theorem z_aload_nq (C : ZC κ own nm cc nL ret rm P) {i : Fin 4} {r : Option Nat} (q j : Nat) (d : decode cc pc = .ok (.aload_n i, 1)) (hj : lv[j]? = some ((i : Nat), va_rf r)) (hq : pc + 1 = q) (kk : Z κ Pic n k q lv (va_rf r :: rest)) : Z κ Pic n k pc lv rest := by
  cases r with
  | none => exact z_aload_nN C q j d hj hq kk
  | some a => exact z_aload_n C q j d hj hq kk
theorem z_aloadq (C : ZC κ own nm cc nL ret rm P) {i : Nat} {r : Option Nat} (q j : Nat) (d : decode cc pc = .ok (.aload i, 2)) (hj : lv[j]? = some (i, va_rf r)) (hq : pc + 2 = q) (kk : Z κ Pic n k q lv (va_rf r :: rest)) : Z κ Pic n k pc lv rest := by
  cases r with
  | none => exact z_aloadN C q j d hj hq kk
  | some a => exact z_aload C q j d hj hq kk
theorem z_astore_nN (C : ZC κ own nm cc nL ret rm P) {i : Fin 4} {lv' : List (Nat × Value)} (q : Nat) (ks : List Nat) (d : decode cc pc = .ok (.astore_n i, 1)) (hn : (i : Nat) < nL) (hk : lv_pick (zst1 lv (i : Nat) .null) ks = lv') (hq : pc + 1 = q) (kk : Z κ Pic n k q lv' rest) : Z κ Pic n k pc lv (.null :: rest) := by
  obtain ⟨θ, p, l, e, R, s, m, args, below, meth, c, Q⟩ := κ
  obtain ⟨hx, hb, hml, hown, hts, hU, hlk, hret, hnm, hR, hQ⟩ := C
  subst hq
  intro H locs ls hP hS hl
  exact lv_astore_nN hx hb d rfl hl (by rw [hml]; exact hn) rfl (fun ls hl => kk H locs ls hP hS (lv_sub hl ks hk))
theorem z_astoreN (C : ZC κ own nm cc nL ret rm P) {i : Nat} {lv' : List (Nat × Value)} (q : Nat) (ks : List Nat) (d : decode cc pc = .ok (.astore i, 2)) (hn : i < nL) (hk : lv_pick (zst1 lv i .null) ks = lv') (hq : pc + 2 = q) (kk : Z κ Pic n k q lv' rest) : Z κ Pic n k pc lv (.null :: rest) := by
  obtain ⟨θ, p, l, e, R, s, m, args, below, meth, c, Q⟩ := κ
  obtain ⟨hx, hb, hml, hown, hts, hU, hlk, hret, hnm, hR, hQ⟩ := C
  subst hq
  intro H locs ls hP hS hl
  exact lv_astoreN hx hb d hl (by rw [hml]; exact hn) rfl (fun ls hl => kk H locs ls hP hS (lv_sub hl ks hk))
theorem z_iinc (C : ZC κ own nm cc nL ret rm P) {i : Nat} {z x : Int} {lv' : List (Nat × Value)} (q j : Nat) (ks : List Nat) (d : decode cc pc = .ok (.iinc i z, 3)) (hj : lv[j]? = some (i, .int (iI x))) (hn : i < nL) (hk : lv_pick (zst1 lv i (.int (iI (x + z)))) ks = lv') (hq : pc + 3 = q) (kk : Z κ Pic n k q lv' rest) : Z κ Pic n k pc lv rest := by
  obtain ⟨θ, p, l, e, R, s, m, args, below, meth, c, Q⟩ := κ
  obtain ⟨hx, hb, hml, hown, hts, hU, hlk, hret, hnm, hR, hQ⟩ := C
  subst hq
  intro H locs ls hP hS hl
  exact lv_iinc (v := iI (x + z)) hx hb d hl (k := j) hj (iI_add x z) (by rw [hml]; exact hn) rfl (fun ls hl => kk H locs ls hP hS (lv_sub hl ks hk))
theorem z_iadd (C : ZC κ own nm cc nL ret rm P) {x y : Int} (q : Nat) (d : decode cc pc = .ok (.iadd, 1)) (hq : pc + 1 = q) (kk : Z κ Pic n k q lv (.int (iI (x + y)) :: rest)) : Z κ Pic n k pc lv (.int (iI y) :: .int (iI x) :: rest) := by
  obtain ⟨θ, p, l, e, R, s, m, args, below, meth, c, Q⟩ := κ
  obtain ⟨hx, hb, hml, hown, hts, hU, hlk, hret, hnm, hR, hQ⟩ := C
  subst hq
  intro H locs ls hP hS hl
  refine lv_iadd hx hb d ?_
  rw [iI_add]
  exact kk H locs ls hP hS hl
theorem z_isub (C : ZC κ own nm cc nL ret rm P) {x y : Int} (q : Nat) (d : decode cc pc = .ok (.isub, 1)) (hq : pc + 1 = q) (kk : Z κ Pic n k q lv (.int (iI (x - y)) :: rest)) : Z κ Pic n k pc lv (.int (iI y) :: .int (iI x) :: rest) := by
  obtain ⟨θ, p, l, e, R, s, m, args, below, meth, c, Q⟩ := κ
  obtain ⟨hx, hb, hml, hown, hts, hU, hlk, hret, hnm, hR, hQ⟩ := C
  subst hq
  intro H locs ls hP hS hl
  refine lv_isub hx hb d ?_
  rw [iI_sub]
  exact kk H locs ls hP hS hl
theorem z_imul (C : ZC κ own nm cc nL ret rm P) {x y : Int} (q : Nat) (d : decode cc pc = .ok (.imul, 1)) (hq : pc + 1 = q) (kk : Z κ Pic n k q lv (.int (iI (x * y)) :: rest)) : Z κ Pic n k pc lv (.int (iI y) :: .int (iI x) :: rest) := by
  obtain ⟨θ, p, l, e, R, s, m, args, below, meth, c, Q⟩ := κ
  obtain ⟨hx, hb, hml, hown, hts, hU, hlk, hret, hnm, hR, hQ⟩ := C
  subst hq
  intro H locs ls hP hS hl
  refine lv_imul hx hb d ?_
  rw [iI_mul]
  exact kk H locs ls hP hS hl
theorem z_iand (C : ZC κ own nm cc nL ret rm P) {x y : Int} (q : Nat) (d : decode cc pc = .ok (.iand, 1)) (hq : pc + 1 = q) (kk : Z κ Pic n k q lv (.int (iI (zand x y)) :: rest)) : Z κ Pic n k pc lv (.int (iI y) :: .int (iI x) :: rest) := by
  obtain ⟨θ, p, l, e, R, s, m, args, below, meth, c, Q⟩ := κ
  obtain ⟨hx, hb, hml, hown, hts, hU, hlk, hret, hnm, hR, hQ⟩ := C
  subst hq
  intro H locs ls hP hS hl
  refine lv_iand hx hb d ?_
  rw [zand_eq]
  exact kk H locs ls hP hS hl
theorem z_ior (C : ZC κ own nm cc nL ret rm P) {x y : Int} (q : Nat) (d : decode cc pc = .ok (.ior, 1)) (hq : pc + 1 = q) (kk : Z κ Pic n k q lv (.int (iI (zor x y)) :: rest)) : Z κ Pic n k pc lv (.int (iI y) :: .int (iI x) :: rest) := by
  obtain ⟨θ, p, l, e, R, s, m, args, below, meth, c, Q⟩ := κ
  obtain ⟨hx, hb, hml, hown, hts, hU, hlk, hret, hnm, hR, hQ⟩ := C
  subst hq
  intro H locs ls hP hS hl
  refine lv_ior hx hb d ?_
  rw [zor_eq]
  exact kk H locs ls hP hS hl
theorem z_ineg (C : ZC κ own nm cc nL ret rm P) {x : Int} (q : Nat) (d : decode cc pc = .ok (.ineg, 1)) (hq : pc + 1 = q) (kk : Z κ Pic n k q lv (.int (iI (-x)) :: rest)) : Z κ Pic n k pc lv (.int (iI x) :: rest) := by
  obtain ⟨θ, p, l, e, R, s, m, args, below, meth, c, Q⟩ := κ
  obtain ⟨hx, hb, hml, hown, hts, hU, hlk, hret, hnm, hR, hQ⟩ := C
  subst hq
  intro H locs ls hP hS hl
  refine lv_ineg hx hb d ?_
  rw [iI_neg]
  exact kk H locs ls hP hS hl
theorem z_ladd (C : ZC κ own nm cc nL ret rm P) {x y : Int} (q : Nat) (d : decode cc pc = .ok (.ladd, 1)) (hq : pc + 1 = q) (kk : Z κ Pic n k q lv (.long (lI (x + y)) :: rest)) : Z κ Pic n k pc lv (.long (lI y) :: .long (lI x) :: rest) := by
  obtain ⟨θ, p, l, e, R, s, m, args, below, meth, c, Q⟩ := κ
  obtain ⟨hx, hb, hml, hown, hts, hU, hlk, hret, hnm, hR, hQ⟩ := C
  subst hq
  intro H locs ls hP hS hl
  refine lv_ladd hx hb d ?_
  rw [lI_add]
  exact kk H locs ls hP hS hl
theorem z_lsub (C : ZC κ own nm cc nL ret rm P) {x y : Int} (q : Nat) (d : decode cc pc = .ok (.lsub, 1)) (hq : pc + 1 = q) (kk : Z κ Pic n k q lv (.long (lI (x - y)) :: rest)) : Z κ Pic n k pc lv (.long (lI y) :: .long (lI x) :: rest) := by
  obtain ⟨θ, p, l, e, R, s, m, args, below, meth, c, Q⟩ := κ
  obtain ⟨hx, hb, hml, hown, hts, hU, hlk, hret, hnm, hR, hQ⟩ := C
  subst hq
  intro H locs ls hP hS hl
  refine lv_lsub hx hb d ?_
  rw [lI_sub]
  exact kk H locs ls hP hS hl
theorem z_lmul (C : ZC κ own nm cc nL ret rm P) {x y : Int} (q : Nat) (d : decode cc pc = .ok (.lmul, 1)) (hq : pc + 1 = q) (kk : Z κ Pic n k q lv (.long (lI (x * y)) :: rest)) : Z κ Pic n k pc lv (.long (lI y) :: .long (lI x) :: rest) := by
  obtain ⟨θ, p, l, e, R, s, m, args, below, meth, c, Q⟩ := κ
  obtain ⟨hx, hb, hml, hown, hts, hU, hlk, hret, hnm, hR, hQ⟩ := C
  subst hq
  intro H locs ls hP hS hl
  refine lv_lmul hx hb d ?_
  rw [lI_mul]
  exact kk H locs ls hP hS hl
theorem z_land (C : ZC κ own nm cc nL ret rm P) {x y : Int} (q : Nat) (d : decode cc pc = .ok (.land, 1)) (hq : pc + 1 = q) (kk : Z κ Pic n k q lv (.long (lI (zlandd x y)) :: rest)) : Z κ Pic n k pc lv (.long (lI y) :: .long (lI x) :: rest) := by
  obtain ⟨θ, p, l, e, R, s, m, args, below, meth, c, Q⟩ := κ
  obtain ⟨hx, hb, hml, hown, hts, hU, hlk, hret, hnm, hR, hQ⟩ := C
  subst hq
  intro H locs ls hP hS hl
  refine lv_land hx hb d ?_
  rw [zlandd_eq]
  exact kk H locs ls hP hS hl
theorem z_lor (C : ZC κ own nm cc nL ret rm P) {x y : Int} (q : Nat) (d : decode cc pc = .ok (.lor, 1)) (hq : pc + 1 = q) (kk : Z κ Pic n k q lv (.long (lI (zlorr x y)) :: rest)) : Z κ Pic n k pc lv (.long (lI y) :: .long (lI x) :: rest) := by
  obtain ⟨θ, p, l, e, R, s, m, args, below, meth, c, Q⟩ := κ
  obtain ⟨hx, hb, hml, hown, hts, hU, hlk, hret, hnm, hR, hQ⟩ := C
  subst hq
  intro H locs ls hP hS hl
  refine lv_lor hx hb d ?_
  rw [zlorr_eq]
  exact kk H locs ls hP hS hl
theorem z_lneg (C : ZC κ own nm cc nL ret rm P) {x : Int} (q : Nat) (d : decode cc pc = .ok (.lneg, 1)) (hq : pc + 1 = q) (kk : Z κ Pic n k q lv (.long (lI (-x)) :: rest)) : Z κ Pic n k pc lv (.long (lI x) :: rest) := by
  obtain ⟨θ, p, l, e, R, s, m, args, below, meth, c, Q⟩ := κ
  obtain ⟨hx, hb, hml, hown, hts, hU, hlk, hret, hnm, hR, hQ⟩ := C
  subst hq
  intro H locs ls hP hS hl
  refine lv_lneg hx hb d ?_
  rw [lI_neg]
  exact kk H locs ls hP hS hl
theorem z_i2l (C : ZC κ own nm cc nL ret rm P) {x : Int} (q : Nat) (d : decode cc pc = .ok (.i2l, 1)) (hX : inR x) (hq : pc + 1 = q) (kk : Z κ Pic n k q lv (.long (lI x) :: rest)) : Z κ Pic n k pc lv (.int (iI x) :: rest) := by
  obtain ⟨θ, p, l, e, R, s, m, args, below, meth, c, Q⟩ := κ
  obtain ⟨hx, hb, hml, hown, hts, hU, hlk, hret, hnm, hR, hQ⟩ := C
  subst hq
  intro H locs ls hP hS hl
  exact lv_i2l hx hb d (iI_long hX) (kk H locs ls hP hS hl)
theorem z_l2i (C : ZC κ own nm cc nL ret rm P) {x : Int} (q : Nat) (d : decode cc pc = .ok (.l2i, 1)) (hq : pc + 1 = q) (kk : Z κ Pic n k q lv (.int (iI x) :: rest)) : Z κ Pic n k pc lv (.long (lI x) :: rest) := by
  obtain ⟨θ, p, l, e, R, s, m, args, below, meth, c, Q⟩ := κ
  obtain ⟨hx, hb, hml, hown, hts, hU, hlk, hret, hnm, hR, hQ⟩ := C
  subst hq
  intro H locs ls hP hS hl
  exact lv_l2i hx hb d (lI_int x) (kk H locs ls hP hS hl)
theorem z_i2b (C : ZC κ own nm cc nL ret rm P) {x : Int32} (q : Nat) (d : decode cc pc = .ok (.i2b, 1)) (hq : pc + 1 = q) (kk : Z κ Pic n k q lv (.int (x.toInt8.toInt32) :: rest)) : Z κ Pic n k pc lv (.int x :: rest) := by
  obtain ⟨θ, p, l, e, R, s, m, args, below, meth, c, Q⟩ := κ
  obtain ⟨hx, hb, hml, hown, hts, hU, hlk, hret, hnm, hR, hQ⟩ := C
  subst hq
  intro H locs ls hP hS hl
  exact lv_i2b hx hb d rfl (kk H locs ls hP hS hl)
theorem z_i2s (C : ZC κ own nm cc nL ret rm P) {x : Int32} (q : Nat) (d : decode cc pc = .ok (.i2s, 1)) (hq : pc + 1 = q) (kk : Z κ Pic n k q lv (.int (x.toInt16.toInt32) :: rest)) : Z κ Pic n k pc lv (.int x :: rest) := by
  obtain ⟨θ, p, l, e, R, s, m, args, below, meth, c, Q⟩ := κ
  obtain ⟨hx, hb, hml, hown, hts, hU, hlk, hret, hnm, hR, hQ⟩ := C
  subst hq
  intro H locs ls hP hS hl
  exact lv_i2s hx hb d rfl (kk H locs ls hP hS hl)
theorem z_i2c (C : ZC κ own nm cc nL ret rm P) {x : Int32} (q : Nat) (d : decode cc pc = .ok (.i2c, 1)) (hq : pc + 1 = q) (kk : Z κ Pic n k q lv (.int ((x.toUInt32 % 65536).toInt32) :: rest)) : Z κ Pic n k pc lv (.int x :: rest) := by
  obtain ⟨θ, p, l, e, R, s, m, args, below, meth, c, Q⟩ := κ
  obtain ⟨hx, hb, hml, hown, hts, hU, hlk, hret, hnm, hR, hQ⟩ := C
  subst hq
  intro H locs ls hP hS hl
  exact lv_i2c hx hb d rfl (kk H locs ls hP hS hl)
theorem z_lshl (C : ZC κ own nm cc nL ret rm P) {x v : Int64} {y : Int32} (q : Nat) (d : decode cc pc = .ok (.lshl, 1)) (hv : x <<< (y.toInt64 &&& 63) = v) (hq : pc + 1 = q) (kk : Z κ Pic n k q lv (.long v :: rest)) : Z κ Pic n k pc lv (.int y :: .long x :: rest) := by
  obtain ⟨θ, p, l, e, R, s, m, args, below, meth, c, Q⟩ := κ
  obtain ⟨hx, hb, hml, hown, hts, hU, hlk, hret, hnm, hR, hQ⟩ := C
  subst hq
  intro H locs ls hP hS hl
  exact lv_lshl hx hb d hv (kk H locs ls hP hS hl)
theorem z_lshr (C : ZC κ own nm cc nL ret rm P) {x v : Int64} {y : Int32} (q : Nat) (d : decode cc pc = .ok (.lshr, 1)) (hv : x >>> (y.toInt64 &&& 63) = v) (hq : pc + 1 = q) (kk : Z κ Pic n k q lv (.long v :: rest)) : Z κ Pic n k pc lv (.int y :: .long x :: rest) := by
  obtain ⟨θ, p, l, e, R, s, m, args, below, meth, c, Q⟩ := κ
  obtain ⟨hx, hb, hml, hown, hts, hU, hlk, hret, hnm, hR, hQ⟩ := C
  subst hq
  intro H locs ls hP hS hl
  exact lv_lshr hx hb d hv (kk H locs ls hP hS hl)
theorem z_lushr (C : ZC κ own nm cc nL ret rm P) {x v : Int64} {y : Int32} (q : Nat) (d : decode cc pc = .ok (.lushr, 1)) (hv : (x.toUInt64 >>> (y.toInt64.toUInt64 &&& Int64.toUInt64 63)).toInt64 = v) (hq : pc + 1 = q) (kk : Z κ Pic n k q lv (.long v :: rest)) : Z κ Pic n k pc lv (.int y :: .long x :: rest) := by
  obtain ⟨θ, p, l, e, R, s, m, args, below, meth, c, Q⟩ := κ
  obtain ⟨hx, hb, hml, hown, hts, hU, hlk, hret, hnm, hR, hQ⟩ := C
  subst hq
  intro H locs ls hP hS hl
  exact lv_lushr hx hb d hv (kk H locs ls hP hS hl)
theorem z_idiv (C : ZC κ own nm cc nL ret rm P) {x y z : Int} (q : Nat) (d : decode cc pc = .ok (.idiv, 1)) (hne : ¬ iI y = 0) (hz : iI x / iI y = iI z) (hq : pc + 1 = q) (kk : Z κ Pic n k q lv (.int (iI z) :: rest)) : Z κ Pic n k pc lv (.int (iI y) :: .int (iI x) :: rest) := by
  obtain ⟨θ, p, l, e, R, s, m, args, below, meth, c, Q⟩ := κ
  obtain ⟨hx, hb, hml, hown, hts, hU, hlk, hret, hnm, hR, hQ⟩ := C
  subst hq
  intro H locs ls hP hS hl
  refine lv_idiv hx hb d hne ?_
  rw [hz]
  exact kk H locs ls hP hS hl
theorem z_irem (C : ZC κ own nm cc nL ret rm P) {x y z : Int} (q : Nat) (d : decode cc pc = .ok (.irem, 1)) (hne : ¬ iI y = 0) (hz : iI x - iI x / iI y * iI y = iI z) (hq : pc + 1 = q) (kk : Z κ Pic n k q lv (.int (iI z) :: rest)) : Z κ Pic n k pc lv (.int (iI y) :: .int (iI x) :: rest) := by
  obtain ⟨θ, p, l, e, R, s, m, args, below, meth, c, Q⟩ := κ
  obtain ⟨hx, hb, hml, hown, hts, hU, hlk, hret, hnm, hR, hQ⟩ := C
  subst hq
  intro H locs ls hP hS hl
  refine lv_irem hx hb d hne ?_
  rw [hz]
  exact kk H locs ls hP hS hl
theorem z_dup (C : ZC κ own nm cc nL ret rm P) {v : Value} (q : Nat) (d : decode cc pc = .ok (.dup, 1)) (hv : v.category = 1) (hq : pc + 1 = q) (kk : Z κ Pic n k q lv (v :: v :: rest)) : Z κ Pic n k pc lv (v :: rest) := by
  obtain ⟨θ, p, l, e, R, s, m, args, below, meth, c, Q⟩ := κ
  obtain ⟨hx, hb, hml, hown, hts, hU, hlk, hret, hnm, hR, hQ⟩ := C
  subst hq
  intro H locs ls hP hS hl
  exact lv_dup hx hb d hv (kk H locs ls hP hS hl)
theorem z_pop (C : ZC κ own nm cc nL ret rm P) {v : Value} (q : Nat) (d : decode cc pc = .ok (.pop, 1)) (hv : v.category = 1) (hq : pc + 1 = q) (kk : Z κ Pic n k q lv (rest)) : Z κ Pic n k pc lv (v :: rest) := by
  obtain ⟨θ, p, l, e, R, s, m, args, below, meth, c, Q⟩ := κ
  obtain ⟨hx, hb, hml, hown, hts, hU, hlk, hret, hnm, hR, hQ⟩ := C
  subst hq
  intro H locs ls hP hS hl
  exact lv_pop hx hb d hv (kk H locs ls hP hS hl)
theorem z_dup_x1 (C : ZC κ own nm cc nL ret rm P) {v w : Value} (q : Nat) (d : decode cc pc = .ok (.dup_x1, 1)) (hv : v.category = 1) (hw : w.category = 1) (hq : pc + 1 = q) (kk : Z κ Pic n k q lv (v :: w :: v :: rest)) : Z κ Pic n k pc lv (v :: w :: rest) := by
  obtain ⟨θ, p, l, e, R, s, m, args, below, meth, c, Q⟩ := κ
  obtain ⟨hx, hb, hml, hown, hts, hU, hlk, hret, hnm, hR, hQ⟩ := C
  subst hq
  intro H locs ls hP hS hl
  exact lv_dup_x1 hx hb d hv hw (kk H locs ls hP hS hl)
theorem z_dup_x2 (C : ZC κ own nm cc nL ret rm P) {v w u : Value} (q : Nat) (d : decode cc pc = .ok (.dup_x2, 1)) (hv : v.category = 1) (hw : w.category = 1) (hu : u.category = 1) (hq : pc + 1 = q) (kk : Z κ Pic n k q lv (v :: w :: u :: v :: rest)) : Z κ Pic n k pc lv (v :: w :: u :: rest) := by
  obtain ⟨θ, p, l, e, R, s, m, args, below, meth, c, Q⟩ := κ
  obtain ⟨hx, hb, hml, hown, hts, hU, hlk, hret, hnm, hR, hQ⟩ := C
  subst hq
  intro H locs ls hP hS hl
  exact lv_dup_x2 hx hb d hv hw hu (kk H locs ls hP hS hl)
theorem z_dup2 (C : ZC κ own nm cc nL ret rm P) {v w : Value} (q : Nat) (d : decode cc pc = .ok (.dup2, 1)) (hv : v.category = 1) (hw : w.category = 1) (hq : pc + 1 = q) (kk : Z κ Pic n k q lv (v :: w :: v :: w :: rest)) : Z κ Pic n k pc lv (v :: w :: rest) := by
  obtain ⟨θ, p, l, e, R, s, m, args, below, meth, c, Q⟩ := κ
  obtain ⟨hx, hb, hml, hown, hts, hU, hlk, hret, hnm, hR, hQ⟩ := C
  subst hq
  intro H locs ls hP hS hl
  exact lv_dup2_11 hx hb d hv hw (kk H locs ls hP hS hl)
theorem z_lcmp (C : ZC κ own nm cc nL ret rm P) {x y : Int} (q : Nat) (d : decode cc pc = .ok (.lcmp, 1)) (hX : inL x) (hY : inL y) (hq : pc + 1 = q) (kk : Z κ Pic n k q lv (.int (iI (zcmp x y)) :: rest)) : Z κ Pic n k pc lv (.long (lI y) :: .long (lI x) :: rest) := by
  obtain ⟨θ, p, l, e, R, s, m, args, below, meth, c, Q⟩ := κ
  obtain ⟨hx, hb, hml, hown, hts, hU, hlk, hret, hnm, hR, hQ⟩ := C
  subst hq
  intro H locs ls hP hS hl
  refine W.lcmp hx hb d ?_
  rw [zlg_cmp hX hY]
  exact kk H locs ls hP hS hl
theorem z_goto (C : ZC κ own nm cc nL ret rm P) {off : Int} (tgt : Nat) (d : decode cc pc = .ok (.goto off, 3)) (ht : (pc : Int) + off = (tgt : Int)) (kk : Z κ Pic n k tgt lv rest) : Z κ Pic n k pc lv rest := by
  obtain ⟨θ, p, l, e, R, s, m, args, below, meth, c, Q⟩ := κ
  obtain ⟨hx, hb, hml, hown, hts, hU, hlk, hret, hnm, hR, hQ⟩ := C
  intro H locs ls hP hS hl
  exact lv_goto hx hb d ht (kk H locs ls hP hS hl)
theorem z_icmp_eq (C : ZC κ own nm cc nL ret rm P) {x y : Int} {off : Int} (tgt q : Nat) (d : decode cc pc = .ok (.if_icmp .eq off, 3)) (ht : (pc : Int) + off = (tgt : Int)) (hX : inR x) (hY : inR y) (hq : pc + 3 = q) (kt : x = y → Z κ Pic n k tgt lv rest) (kf : ¬ x = y → Z κ Pic n k q lv rest) : Z κ Pic n k pc lv (.int (iI y) :: .int (iI x) :: rest) := by
  obtain ⟨θ, p, l, e, R, s, m, args, below, meth, c, Q⟩ := κ
  obtain ⟨hx, hb, hml, hown, hts, hU, hlk, hret, hnm, hR, hQ⟩ := C
  subst hq
  intro H locs ls hP hS hl
  exact lv_icmp_eq hx hb d ht (fun h => kt ((iI_inj hX hY).mp h) H locs ls hP hS hl) (fun h => kf ((fun h => (not_congr (iI_inj hX hY)).mp h) h) H locs ls hP hS hl)
theorem z_if_eq (C : ZC κ own nm cc nL ret rm P) {x : Int} {off : Int} (tgt q : Nat) (d : decode cc pc = .ok (.ifCond .eq off, 3)) (ht : (pc : Int) + off = (tgt : Int)) (hX : inR x) (hq : pc + 3 = q) (kt : x = 0 → Z κ Pic n k tgt lv rest) (kf : ¬ x = 0 → Z κ Pic n k q lv rest) : Z κ Pic n k pc lv (.int (iI x) :: rest) := by
  obtain ⟨θ, p, l, e, R, s, m, args, below, meth, c, Q⟩ := κ
  obtain ⟨hx, hb, hml, hown, hts, hU, hlk, hret, hnm, hR, hQ⟩ := C
  subst hq
  intro H locs ls hP hS hl
  have hY : inR 0 := ⟨by decide, by decide⟩
  exact lv_if_eq hx hb d ht (fun h => kt ((iI_inj hX hY).mp h) H locs ls hP hS hl) (fun h => kf ((fun h => (not_congr (iI_inj hX hY)).mp h) h) H locs ls hP hS hl)
theorem z_icmp_ne (C : ZC κ own nm cc nL ret rm P) {x y : Int} {off : Int} (tgt q : Nat) (d : decode cc pc = .ok (.if_icmp .ne off, 3)) (ht : (pc : Int) + off = (tgt : Int)) (hX : inR x) (hY : inR y) (hq : pc + 3 = q) (kt : ¬ x = y → Z κ Pic n k tgt lv rest) (kf : x = y → Z κ Pic n k q lv rest) : Z κ Pic n k pc lv (.int (iI y) :: .int (iI x) :: rest) := by
  obtain ⟨θ, p, l, e, R, s, m, args, below, meth, c, Q⟩ := κ
  obtain ⟨hx, hb, hml, hown, hts, hU, hlk, hret, hnm, hR, hQ⟩ := C
  subst hq
  intro H locs ls hP hS hl
  exact lv_icmp_ne hx hb d ht (fun h => kt ((not_congr (iI_inj hX hY)).mp h) H locs ls hP hS hl) (fun h => kf ((fun h => (iI_inj hX hY).mp h) h) H locs ls hP hS hl)
theorem z_if_ne (C : ZC κ own nm cc nL ret rm P) {x : Int} {off : Int} (tgt q : Nat) (d : decode cc pc = .ok (.ifCond .ne off, 3)) (ht : (pc : Int) + off = (tgt : Int)) (hX : inR x) (hq : pc + 3 = q) (kt : ¬ x = 0 → Z κ Pic n k tgt lv rest) (kf : x = 0 → Z κ Pic n k q lv rest) : Z κ Pic n k pc lv (.int (iI x) :: rest) := by
  obtain ⟨θ, p, l, e, R, s, m, args, below, meth, c, Q⟩ := κ
  obtain ⟨hx, hb, hml, hown, hts, hU, hlk, hret, hnm, hR, hQ⟩ := C
  subst hq
  intro H locs ls hP hS hl
  have hY : inR 0 := ⟨by decide, by decide⟩
  exact lv_if_ne hx hb d ht (fun h => kt ((not_congr (iI_inj hX hY)).mp h) H locs ls hP hS hl) (fun h => kf ((fun h => (iI_inj hX hY).mp h) h) H locs ls hP hS hl)
theorem z_icmp_lt (C : ZC κ own nm cc nL ret rm P) {x y : Int} {off : Int} (tgt q : Nat) (d : decode cc pc = .ok (.if_icmp .lt off, 3)) (ht : (pc : Int) + off = (tgt : Int)) (hX : inR x) (hY : inR y) (hq : pc + 3 = q) (kt : x < y → Z κ Pic n k tgt lv rest) (kf : y ≤ x → Z κ Pic n k q lv rest) : Z κ Pic n k pc lv (.int (iI y) :: .int (iI x) :: rest) := by
  obtain ⟨θ, p, l, e, R, s, m, args, below, meth, c, Q⟩ := κ
  obtain ⟨hx, hb, hml, hown, hts, hU, hlk, hret, hnm, hR, hQ⟩ := C
  subst hq
  intro H locs ls hP hS hl
  exact lv_icmp_lt hx hb d ht (fun h => kt ((iI_lt hX hY).mp h) H locs ls hP hS hl) (fun h => kf ((fun h => Int.not_lt.mp (fun z => h ((iI_lt hX hY).mpr z))) h) H locs ls hP hS hl)
theorem z_if_lt (C : ZC κ own nm cc nL ret rm P) {x : Int} {off : Int} (tgt q : Nat) (d : decode cc pc = .ok (.ifCond .lt off, 3)) (ht : (pc : Int) + off = (tgt : Int)) (hX : inR x) (hq : pc + 3 = q) (kt : x < 0 → Z κ Pic n k tgt lv rest) (kf : 0 ≤ x → Z κ Pic n k q lv rest) : Z κ Pic n k pc lv (.int (iI x) :: rest) := by
  obtain ⟨θ, p, l, e, R, s, m, args, below, meth, c, Q⟩ := κ
  obtain ⟨hx, hb, hml, hown, hts, hU, hlk, hret, hnm, hR, hQ⟩ := C
  subst hq
  intro H locs ls hP hS hl
  have hY : inR 0 := ⟨by decide, by decide⟩
  exact lv_if_lt hx hb d ht (fun h => kt ((iI_lt hX hY).mp h) H locs ls hP hS hl) (fun h => kf ((fun h => Int.not_lt.mp (fun z => h ((iI_lt hX hY).mpr z))) h) H locs ls hP hS hl)
theorem z_icmp_ge (C : ZC κ own nm cc nL ret rm P) {x y : Int} {off : Int} (tgt q : Nat) (d : decode cc pc = .ok (.if_icmp .ge off, 3)) (ht : (pc : Int) + off = (tgt : Int)) (hX : inR x) (hY : inR y) (hq : pc + 3 = q) (kt : y ≤ x → Z κ Pic n k tgt lv rest) (kf : x < y → Z κ Pic n k q lv rest) : Z κ Pic n k pc lv (.int (iI y) :: .int (iI x) :: rest) := by
  obtain ⟨θ, p, l, e, R, s, m, args, below, meth, c, Q⟩ := κ
  obtain ⟨hx, hb, hml, hown, hts, hU, hlk, hret, hnm, hR, hQ⟩ := C
  subst hq
  intro H locs ls hP hS hl
  exact lv_icmp_ge hx hb d ht (fun h => kt ((iI_le hY hX).mp h) H locs ls hP hS hl) (fun h => kf ((fun h => Int.not_le.mp (fun z => h ((iI_le hY hX).mpr z))) h) H locs ls hP hS hl)
theorem z_if_ge (C : ZC κ own nm cc nL ret rm P) {x : Int} {off : Int} (tgt q : Nat) (d : decode cc pc = .ok (.ifCond .ge off, 3)) (ht : (pc : Int) + off = (tgt : Int)) (hX : inR x) (hq : pc + 3 = q) (kt : 0 ≤ x → Z κ Pic n k tgt lv rest) (kf : x < 0 → Z κ Pic n k q lv rest) : Z κ Pic n k pc lv (.int (iI x) :: rest) := by
  obtain ⟨θ, p, l, e, R, s, m, args, below, meth, c, Q⟩ := κ
  obtain ⟨hx, hb, hml, hown, hts, hU, hlk, hret, hnm, hR, hQ⟩ := C
  subst hq
  intro H locs ls hP hS hl
  have hY : inR 0 := ⟨by decide, by decide⟩
  exact lv_if_ge hx hb d ht (fun h => kt ((iI_le hY hX).mp h) H locs ls hP hS hl) (fun h => kf ((fun h => Int.not_le.mp (fun z => h ((iI_le hY hX).mpr z))) h) H locs ls hP hS hl)
theorem z_icmp_gt (C : ZC κ own nm cc nL ret rm P) {x y : Int} {off : Int} (tgt q : Nat) (d : decode cc pc = .ok (.if_icmp .gt off, 3)) (ht : (pc : Int) + off = (tgt : Int)) (hX : inR x) (hY : inR y) (hq : pc + 3 = q) (kt : y < x → Z κ Pic n k tgt lv rest) (kf : x ≤ y → Z κ Pic n k q lv rest) : Z κ Pic n k pc lv (.int (iI y) :: .int (iI x) :: rest) := by
  obtain ⟨θ, p, l, e, R, s, m, args, below, meth, c, Q⟩ := κ
  obtain ⟨hx, hb, hml, hown, hts, hU, hlk, hret, hnm, hR, hQ⟩ := C
  subst hq
  intro H locs ls hP hS hl
  exact lv_icmp_gt hx hb d ht (fun h => kt ((iI_lt hY hX).mp h) H locs ls hP hS hl) (fun h => kf ((fun h => Int.not_lt.mp (fun z => h ((iI_lt hY hX).mpr z))) h) H locs ls hP hS hl)
theorem z_if_gt (C : ZC κ own nm cc nL ret rm P) {x : Int} {off : Int} (tgt q : Nat) (d : decode cc pc = .ok (.ifCond .gt off, 3)) (ht : (pc : Int) + off = (tgt : Int)) (hX : inR x) (hq : pc + 3 = q) (kt : 0 < x → Z κ Pic n k tgt lv rest) (kf : x ≤ 0 → Z κ Pic n k q lv rest) : Z κ Pic n k pc lv (.int (iI x) :: rest) := by
  obtain ⟨θ, p, l, e, R, s, m, args, below, meth, c, Q⟩ := κ
  obtain ⟨hx, hb, hml, hown, hts, hU, hlk, hret, hnm, hR, hQ⟩ := C
  subst hq
  intro H locs ls hP hS hl
  have hY : inR 0 := ⟨by decide, by decide⟩
  exact lv_if_gt hx hb d ht (fun h => kt ((iI_lt hY hX).mp h) H locs ls hP hS hl) (fun h => kf ((fun h => Int.not_lt.mp (fun z => h ((iI_lt hY hX).mpr z))) h) H locs ls hP hS hl)
theorem z_icmp_le (C : ZC κ own nm cc nL ret rm P) {x y : Int} {off : Int} (tgt q : Nat) (d : decode cc pc = .ok (.if_icmp .le off, 3)) (ht : (pc : Int) + off = (tgt : Int)) (hX : inR x) (hY : inR y) (hq : pc + 3 = q) (kt : x ≤ y → Z κ Pic n k tgt lv rest) (kf : y < x → Z κ Pic n k q lv rest) : Z κ Pic n k pc lv (.int (iI y) :: .int (iI x) :: rest) := by
  obtain ⟨θ, p, l, e, R, s, m, args, below, meth, c, Q⟩ := κ
  obtain ⟨hx, hb, hml, hown, hts, hU, hlk, hret, hnm, hR, hQ⟩ := C
  subst hq
  intro H locs ls hP hS hl
  exact lv_icmp_le hx hb d ht (fun h => kt ((iI_le hX hY).mp h) H locs ls hP hS hl) (fun h => kf ((fun h => Int.not_le.mp (fun z => h ((iI_le hX hY).mpr z))) h) H locs ls hP hS hl)
theorem z_if_le (C : ZC κ own nm cc nL ret rm P) {x : Int} {off : Int} (tgt q : Nat) (d : decode cc pc = .ok (.ifCond .le off, 3)) (ht : (pc : Int) + off = (tgt : Int)) (hX : inR x) (hq : pc + 3 = q) (kt : x ≤ 0 → Z κ Pic n k tgt lv rest) (kf : 0 < x → Z κ Pic n k q lv rest) : Z κ Pic n k pc lv (.int (iI x) :: rest) := by
  obtain ⟨θ, p, l, e, R, s, m, args, below, meth, c, Q⟩ := κ
  obtain ⟨hx, hb, hml, hown, hts, hU, hlk, hret, hnm, hR, hQ⟩ := C
  subst hq
  intro H locs ls hP hS hl
  have hY : inR 0 := ⟨by decide, by decide⟩
  exact lv_if_le hx hb d ht (fun h => kt ((iI_le hX hY).mp h) H locs ls hP hS hl) (fun h => kf ((fun h => Int.not_le.mp (fun z => h ((iI_le hX hY).mpr z))) h) H locs ls hP hS hl)
theorem zcmp_eq {x y : Int} : zcmp x y = 0 ↔ x = y := by unfold zcmp; constructor <;> intro h <;> (first | omega | (split at h <;> first | omega | (split at h <;> omega)) | (split <;> first | omega | (split <;> omega)))
theorem zcmp_lt {x y : Int} : zcmp x y < 0 ↔ x < y := by unfold zcmp; constructor <;> intro h <;> (first | omega | (split at h <;> first | omega | (split at h <;> omega)) | (split <;> first | omega | (split <;> omega)))
theorem zcmp_le {x y : Int} : zcmp x y ≤ 0 ↔ x ≤ y := by unfold zcmp; constructor <;> intro h <;> (first | omega | (split at h <;> first | omega | (split at h <;> omega)) | (split <;> first | omega | (split <;> omega)))
theorem z_ifC_eq (C : ZC κ own nm cc nL ret rm P) {x y : Int} {off : Int} (tgt q : Nat) (d : decode cc pc = .ok (.ifCond .eq off, 3)) (ht : (pc : Int) + off = (tgt : Int)) (hq : pc + 3 = q) (kt : x = y → Z κ Pic n k tgt lv rest) (kf : ¬ x = y → Z κ Pic n k q lv rest) : Z κ Pic n k pc lv (.int (iI (zcmp x y)) :: rest) := z_if_eq C tgt q d ht (inR_zcmp x y) hq (fun h => kt (zcmp_eq.mp h)) (fun h => kf (fun z => h (zcmp_eq.mpr z)))
theorem z_ifC_ne (C : ZC κ own nm cc nL ret rm P) {x y : Int} {off : Int} (tgt q : Nat) (d : decode cc pc = .ok (.ifCond .ne off, 3)) (ht : (pc : Int) + off = (tgt : Int)) (hq : pc + 3 = q) (kt : ¬ x = y → Z κ Pic n k tgt lv rest) (kf : x = y → Z κ Pic n k q lv rest) : Z κ Pic n k pc lv (.int (iI (zcmp x y)) :: rest) := z_if_ne C tgt q d ht (inR_zcmp x y) hq (fun h => kt (fun z => h (zcmp_eq.mpr z))) (fun h => kf (zcmp_eq.mp h))
theorem z_ifC_lt (C : ZC κ own nm cc nL ret rm P) {x y : Int} {off : Int} (tgt q : Nat) (d : decode cc pc = .ok (.ifCond .lt off, 3)) (ht : (pc : Int) + off = (tgt : Int)) (hq : pc + 3 = q) (kt : x < y → Z κ Pic n k tgt lv rest) (kf : y ≤ x → Z κ Pic n k q lv rest) : Z κ Pic n k pc lv (.int (iI (zcmp x y)) :: rest) := z_if_lt C tgt q d ht (inR_zcmp x y) hq (fun h => kt (zcmp_lt.mp h)) (fun h => kf (Int.not_lt.mp (fun z => Int.not_lt.mpr h (zcmp_lt.mpr z))))
theorem z_ifC_ge (C : ZC κ own nm cc nL ret rm P) {x y : Int} {off : Int} (tgt q : Nat) (d : decode cc pc = .ok (.ifCond .ge off, 3)) (ht : (pc : Int) + off = (tgt : Int)) (hq : pc + 3 = q) (kt : y ≤ x → Z κ Pic n k tgt lv rest) (kf : x < y → Z κ Pic n k q lv rest) : Z κ Pic n k pc lv (.int (iI (zcmp x y)) :: rest) := z_if_ge C tgt q d ht (inR_zcmp x y) hq (fun h => kt (Int.not_lt.mp (fun z => Int.not_lt.mpr h (zcmp_lt.mpr z)))) (fun h => kf (zcmp_lt.mp h))
theorem z_ifC_gt (C : ZC κ own nm cc nL ret rm P) {x y : Int} {off : Int} (tgt q : Nat) (d : decode cc pc = .ok (.ifCond .gt off, 3)) (ht : (pc : Int) + off = (tgt : Int)) (hq : pc + 3 = q) (kt : y < x → Z κ Pic n k tgt lv rest) (kf : x ≤ y → Z κ Pic n k q lv rest) : Z κ Pic n k pc lv (.int (iI (zcmp x y)) :: rest) := z_if_gt C tgt q d ht (inR_zcmp x y) hq (fun h => kt (Int.not_le.mp (fun z => Int.not_le.mpr h (zcmp_le.mpr z)))) (fun h => kf (zcmp_le.mp h))
theorem z_ifC_le (C : ZC κ own nm cc nL ret rm P) {x y : Int} {off : Int} (tgt q : Nat) (d : decode cc pc = .ok (.ifCond .le off, 3)) (ht : (pc : Int) + off = (tgt : Int)) (hq : pc + 3 = q) (kt : x ≤ y → Z κ Pic n k tgt lv rest) (kf : y < x → Z κ Pic n k q lv rest) : Z κ Pic n k pc lv (.int (iI (zcmp x y)) :: rest) := z_if_le C tgt q d ht (inR_zcmp x y) hq (fun h => kt (zcmp_le.mp h)) (fun h => kf (Int.not_le.mp (fun z => Int.not_le.mpr h (zcmp_le.mpr z))))
theorem z_ifB_eq (C : ZC κ own nm cc nL ret rm P) {b : Bool} {off : Int} (tgt q : Nat) (d : decode cc pc = .ok (.ifCond .eq off, 3)) (ht : (pc : Int) + off = (tgt : Int)) (hq : pc + 3 = q) (kt : b = false → Z κ Pic n k tgt lv rest) (kf : b = true → Z κ Pic n k q lv rest) : Z κ Pic n k pc lv (.int (iI (bI b)) :: rest) := z_if_eq C tgt q d ht (inR_b b) hq (fun h => kt (bI_0.mp h)) (fun h => kf (bI_n.mp h))
theorem z_ifB_ne (C : ZC κ own nm cc nL ret rm P) {b : Bool} {off : Int} (tgt q : Nat) (d : decode cc pc = .ok (.ifCond .ne off, 3)) (ht : (pc : Int) + off = (tgt : Int)) (hq : pc + 3 = q) (kt : b = true → Z κ Pic n k tgt lv rest) (kf : b = false → Z κ Pic n k q lv rest) : Z κ Pic n k pc lv (.int (iI (bI b)) :: rest) := z_if_ne C tgt q d ht (inR_b b) hq (fun h => kt (bI_n.mp h)) (fun h => kf (bI_0.mp h))
theorem z_tsIn (C : ZC κ own nm cc nL ret rm P) {dflt lo hi : Int} {offs : Array Int} {len : Nat} {off : Int} (x : Int) (tgt : Nat) (d : decode cc pc = .ok (.tableswitch dflt lo hi offs, len)) (hX : inR x) (h1 : lo ≤ x) (h2 : x ≤ hi) (ho : offs[(x - lo).toNat]? = some off) (ht : (pc : Int) + off = (tgt : Int)) (kk : Z κ Pic n k tgt lv rest) : Z κ Pic n k pc lv (.int (iI x) :: rest) := by
  obtain ⟨θ, p, l, e, R, s, m, args, below, meth, c, Q⟩ := κ
  obtain ⟨hx, hb, hml, hown, hts, hU, hlk, hret, hnm, hR, hQ⟩ := C
  intro H locs ls hP hS hl
  exact lv_tableIn hx hb d (by rw [iI_toInt hX]; omega) (by rw [iI_toInt hX]; omega) (by rw [iI_toInt hX]; exact ho) ht (kk H locs ls hP hS hl)
theorem z_tsOut (C : ZC κ own nm cc nL ret rm P) {dflt lo hi : Int} {offs : Array Int} {len : Nat} {x : Int} (tgt : Nat) (d : decode cc pc = .ok (.tableswitch dflt lo hi offs, len)) (hX : inR x) (h : x < lo ∨ hi < x) (ht : (pc : Int) + dflt = (tgt : Int)) (kk : Z κ Pic n k tgt lv rest) : Z κ Pic n k pc lv (.int (iI x) :: rest) := by
  obtain ⟨θ, p, l, e, R, s, m, args, below, meth, c, Q⟩ := κ
  obtain ⟨hx, hb, hml, hown, hts, hU, hlk, hret, hnm, hR, hQ⟩ := C
  intro H locs ls hP hS hl
  exact lv_tableOut hx hb d (by rw [iI_toInt hX]; exact h) ht (kk H locs ls hP hS hl)
theorem z_ifnonnull (C : ZC κ own nm cc nL ret rm P) {a : Nat} {off : Int} (tgt : Nat) (d : decode cc pc = .ok (.ifnonnull off, 3)) (ht : (pc : Int) + off = (tgt : Int)) (kk : Z κ Pic n k tgt lv rest) : Z κ Pic n k pc lv (.ref a :: rest) := by
  obtain ⟨θ, p, l, e, R, s, m, args, below, meth, c, Q⟩ := κ
  obtain ⟨hx, hb, hml, hown, hts, hU, hlk, hret, hnm, hR, hQ⟩ := C
  intro H locs ls hP hS hl
  exact lv_ifnonnull hx hb d ht (kk H locs ls hP hS hl)
theorem z_ifnonnullN (C : ZC κ own nm cc nL ret rm P) {off : Int} (q : Nat) (d : decode cc pc = .ok (.ifnonnull off, 3)) (hq : pc + 3 = q) (kk : Z κ Pic n k q lv rest) : Z κ Pic n k pc lv (.null :: rest) := by
  obtain ⟨θ, p, l, e, R, s, m, args, below, meth, c, Q⟩ := κ
  obtain ⟨hx, hb, hml, hown, hts, hU, hlk, hret, hnm, hR, hQ⟩ := C
  subst hq
  intro H locs ls hP hS hl
  exact lv_ifnonnullN hx hb d (kk H locs ls hP hS hl)
theorem z_ifnull (C : ZC κ own nm cc nL ret rm P) {a : Nat} {off : Int} (q : Nat) (d : decode cc pc = .ok (.ifnull off, 3)) (hq : pc + 3 = q) (kk : Z κ Pic n k q lv rest) : Z κ Pic n k pc lv (.ref a :: rest) := by
  obtain ⟨θ, p, l, e, R, s, m, args, below, meth, c, Q⟩ := κ
  obtain ⟨hx, hb, hml, hown, hts, hU, hlk, hret, hnm, hR, hQ⟩ := C
  subst hq
  intro H locs ls hP hS hl
  exact lv_ifnull hx hb d (kk H locs ls hP hS hl)
theorem z_ifnullN (C : ZC κ own nm cc nL ret rm P) {off : Int} (tgt : Nat) (d : decode cc pc = .ok (.ifnull off, 3)) (ht : (pc : Int) + off = (tgt : Int)) (kk : Z κ Pic n k tgt lv rest) : Z κ Pic n k pc lv (.null :: rest) := by
  obtain ⟨θ, p, l, e, R, s, m, args, below, meth, c, Q⟩ := κ
  obtain ⟨hx, hb, hml, hown, hts, hU, hlk, hret, hnm, hR, hQ⟩ := C
  intro H locs ls hP hS hl
  exact lv_ifnullN hx hb d ht (kk H locs ls hP hS hl)
theorem z_acmp_eq (C : ZC κ own nm cc nL ret rm P) (rx ry : Option Nat) {off : Int} {vx vy : Value} (tgt q : Nat) (d : decode cc pc = .ok (.if_acmp .eq off, 3)) (ht : (pc : Int) + off = (tgt : Int)) (hq : pc + 3 = q) (hvx : vx = va_rf rx) (hvy : vy = va_rf ry) (kt : rx = ry → Z κ Pic n k tgt lv rest) (kf : ¬ rx = ry → Z κ Pic n k q lv rest) : Z κ Pic n k pc lv (vy :: vx :: rest) := by
  obtain ⟨θ, p, l, e, R, s, m, args, below, meth, c, Q⟩ := κ
  obtain ⟨hx, hb, hml, hown, hts, hU, hlk, hret, hnm, hR, hQ⟩ := C
  subst hq; subst hvx; subst hvy
  intro H locs ls hP hS hl
  exact lv_acmp_eq hx hb d ht (fun h => kt h H locs ls hP hS hl) (fun h => kf h H locs ls hP hS hl)
theorem z_acmp_ne (C : ZC κ own nm cc nL ret rm P) (rx ry : Option Nat) {off : Int} {vx vy : Value} (tgt q : Nat) (d : decode cc pc = .ok (.if_acmp .ne off, 3)) (ht : (pc : Int) + off = (tgt : Int)) (hq : pc + 3 = q) (hvx : vx = va_rf rx) (hvy : vy = va_rf ry) (kt : ¬ rx = ry → Z κ Pic n k tgt lv rest) (kf : rx = ry → Z κ Pic n k q lv rest) : Z κ Pic n k pc lv (vy :: vx :: rest) := by
  obtain ⟨θ, p, l, e, R, s, m, args, below, meth, c, Q⟩ := κ
  obtain ⟨hx, hb, hml, hown, hts, hU, hlk, hret, hnm, hR, hQ⟩ := C
  subst hq; subst hvx; subst hvy
  intro H locs ls hP hS hl
  exact lv_acmp_ne hx hb d ht (fun h => kt h H locs ls hP hS hl) (fun h => kf h H locs ls hP hS hl)
theorem z_dneg (C : ZC κ own nm cc nL ret rm P) {x : UInt64} (q : Nat) (d : decode cc pc = .ok (.dneg, 1)) (hq : pc + 1 = q) (kk : Z κ Pic n k q lv (.double (FP.dneg x) :: rest)) : Z κ Pic n k pc lv (.double x :: rest) := by
  obtain ⟨θ, p, l, e, R, s, m, args, below, meth, c, Q⟩ := κ
  obtain ⟨hx, hb, hml, hown, hts, hU, hlk, hret, hnm, hR, hQ⟩ := C
  subst hq
  intro H locs ls hP hS hl
  exact lv_dneg hx hb d (kk H locs ls hP hS hl)
theorem z_l2d (C : ZC κ own nm cc nL ret rm P) {x : Int64} (q : Nat) (d : decode cc pc = .ok (.l2d, 1)) (hq : pc + 1 = q) (kk : Z κ Pic n k q lv (.double (FP.l2d x) :: rest)) : Z κ Pic n k pc lv (.long x :: rest) := by
  obtain ⟨θ, p, l, e, R, s, m, args, below, meth, c, Q⟩ := κ
  obtain ⟨hx, hb, hml, hown, hts, hU, hlk, hret, hnm, hR, hQ⟩ := C
  subst hq
  intro H locs ls hP hS hl
  exact lv_l2d hx hb d (kk H locs ls hP hS hl)
theorem z_l2f (C : ZC κ own nm cc nL ret rm P) {x : Int64} (q : Nat) (d : decode cc pc = .ok (.l2f, 1)) (hq : pc + 1 = q) (kk : Z κ Pic n k q lv (.float (FP.l2f x) :: rest)) : Z κ Pic n k pc lv (.long x :: rest) := by
  obtain ⟨θ, p, l, e, R, s, m, args, below, meth, c, Q⟩ := κ
  obtain ⟨hx, hb, hml, hown, hts, hU, hlk, hret, hnm, hR, hQ⟩ := C
  subst hq
  intro H locs ls hP hS hl
  exact lv_l2f hx hb d (kk H locs ls hP hS hl)
theorem z_i2d (C : ZC κ own nm cc nL ret rm P) {x : Int32} (q : Nat) (d : decode cc pc = .ok (.i2d, 1)) (hq : pc + 1 = q) (kk : Z κ Pic n k q lv (.double (FP.i2d x) :: rest)) : Z κ Pic n k pc lv (.int x :: rest) := by
  obtain ⟨θ, p, l, e, R, s, m, args, below, meth, c, Q⟩ := κ
  obtain ⟨hx, hb, hml, hown, hts, hU, hlk, hret, hnm, hR, hQ⟩ := C
  subst hq
  intro H locs ls hP hS hl
  exact lv_i2d hx hb d (kk H locs ls hP hS hl)
theorem z_d2l (C : ZC κ own nm cc nL ret rm P) {x : UInt64} (q : Nat) (d : decode cc pc = .ok (.d2l, 1)) (hq : pc + 1 = q) (kk : Z κ Pic n k q lv (.long (FP.d2l x) :: rest)) : Z κ Pic n k pc lv (.double x :: rest) := by
  obtain ⟨θ, p, l, e, R, s, m, args, below, meth, c, Q⟩ := κ
  obtain ⟨hx, hb, hml, hown, hts, hU, hlk, hret, hnm, hR, hQ⟩ := C
  subst hq
  intro H locs ls hP hS hl
  exact lv_d2l hx hb d (kk H locs ls hP hS hl)
theorem z_dadd (C : ZC κ own nm cc nL ret rm P) {x y : UInt64} (q : Nat) (d : decode cc pc = .ok (.dadd, 1)) (hne : vf_n64 (FP.dadd x y)) (hq : pc + 1 = q) (kk : Z κ Pic n k q lv (.double (FP.dadd x y) :: rest)) : Z κ Pic n k pc lv (.double y :: .double x :: rest) := by
  obtain ⟨θ, p, l, e, R, s, m, args, below, meth, c, Q⟩ := κ
  obtain ⟨hx, hb, hml, hown, hts, hU, hlk, hret, hnm, hR, hQ⟩ := C
  subst hq
  intro H locs ls hP hS hl
  exact lv_dadd hx hb d hne (kk H locs ls hP hS hl)
theorem z_dsub (C : ZC κ own nm cc nL ret rm P) {x y : UInt64} (q : Nat) (d : decode cc pc = .ok (.dsub, 1)) (hne : vf_n64 (FP.dsub x y)) (hq : pc + 1 = q) (kk : Z κ Pic n k q lv (.double (FP.dsub x y) :: rest)) : Z κ Pic n k pc lv (.double y :: .double x :: rest) := by
  obtain ⟨θ, p, l, e, R, s, m, args, below, meth, c, Q⟩ := κ
  obtain ⟨hx, hb, hml, hown, hts, hU, hlk, hret, hnm, hR, hQ⟩ := C
  subst hq
  intro H locs ls hP hS hl
  exact lv_dsub hx hb d hne (kk H locs ls hP hS hl)
theorem z_dmul (C : ZC κ own nm cc nL ret rm P) {x y : UInt64} (q : Nat) (d : decode cc pc = .ok (.dmul, 1)) (hne : vf_n64 (FP.dmul x y)) (hq : pc + 1 = q) (kk : Z κ Pic n k q lv (.double (FP.dmul x y) :: rest)) : Z κ Pic n k pc lv (.double y :: .double x :: rest) := by
  obtain ⟨θ, p, l, e, R, s, m, args, below, meth, c, Q⟩ := κ
  obtain ⟨hx, hb, hml, hown, hts, hU, hlk, hret, hnm, hR, hQ⟩ := C
  subst hq
  intro H locs ls hP hS hl
  exact lv_dmul hx hb d hne (kk H locs ls hP hS hl)
theorem z_ddiv (C : ZC κ own nm cc nL ret rm P) {x y : UInt64} (q : Nat) (d : decode cc pc = .ok (.ddiv, 1)) (hne : vf_n64 (FP.ddiv x y)) (hq : pc + 1 = q) (kk : Z κ Pic n k q lv (.double (FP.ddiv x y) :: rest)) : Z κ Pic n k pc lv (.double y :: .double x :: rest) := by
  obtain ⟨θ, p, l, e, R, s, m, args, below, meth, c, Q⟩ := κ
  obtain ⟨hx, hb, hml, hown, hts, hU, hlk, hret, hnm, hR, hQ⟩ := C
  subst hq
  intro H locs ls hP hS hl
  exact lv_ddiv hx hb d hne (kk H locs ls hP hS hl)
theorem z_fadd (C : ZC κ own nm cc nL ret rm P) {x y : UInt32} (q : Nat) (d : decode cc pc = .ok (.fadd, 1)) (hne : vf_n32 (FP.fadd x y)) (hq : pc + 1 = q) (kk : Z κ Pic n k q lv (.float (FP.fadd x y) :: rest)) : Z κ Pic n k pc lv (.float y :: .float x :: rest) := by
  obtain ⟨θ, p, l, e, R, s, m, args, below, meth, c, Q⟩ := κ
  obtain ⟨hx, hb, hml, hown, hts, hU, hlk, hret, hnm, hR, hQ⟩ := C
  subst hq
  intro H locs ls hP hS hl
  exact lv_fadd hx hb d hne (kk H locs ls hP hS hl)
theorem z_f2d (C : ZC κ own nm cc nL ret rm P) {x : UInt32} (q : Nat) (d : decode cc pc = .ok (.f2d, 1)) (hne : vf_n64 (FP.f2d x)) (hq : pc + 1 = q) (kk : Z κ Pic n k q lv (.double (FP.f2d x) :: rest)) : Z κ Pic n k pc lv (.float x :: rest) := by
  obtain ⟨θ, p, l, e, R, s, m, args, below, meth, c, Q⟩ := κ
  obtain ⟨hx, hb, hml, hown, hts, hU, hlk, hret, hnm, hR, hQ⟩ := C
  subst hq
  intro H locs ls hP hS hl
  exact lv_f2d hx hb d hne (kk H locs ls hP hS hl)
theorem z_d2f (C : ZC κ own nm cc nL ret rm P) {x : UInt64} (q : Nat) (d : decode cc pc = .ok (.d2f, 1)) (hne : vf_n32 (FP.d2f x)) (hq : pc + 1 = q) (kk : Z κ Pic n k q lv (.float (FP.d2f x) :: rest)) : Z κ Pic n k pc lv (.double x :: rest) := by
  obtain ⟨θ, p, l, e, R, s, m, args, below, meth, c, Q⟩ := κ
  obtain ⟨hx, hb, hml, hown, hts, hU, hlk, hret, hnm, hR, hQ⟩ := C
  subst hq
  intro H locs ls hP hS hl
  exact lv_d2f hx hb d hne (kk H locs ls hP hS hl)
end ZRow
section ZEnd
variable {κ : zK} {own nm : String} {cc : ByteArray} {nL : Nat} {rm : Room} {P : Option Value → (Heap → Prop) → Prop} {Pic : Heap → Prop} {n k pc : Nat} {lv : List (Nat × Value)} {st rest : List Value}
theorem z_iret {ty : FieldType} (C : ZC κ own nm cc nL (some ty) rm P) {v : Int32} (d : decode cc pc = .ok (.ireturn, 1)) (hn : narrow ty (.int v) = .int v) (h1 : n ≤ rm.cells) (h2 : k ≤ rm.slots) (hp : P (some (.int v)) Pic) : Z κ Pic n k pc lv [.int v] := by
  obtain ⟨θ, p, l, e, R, s, m, args, below, meth, c, Q⟩ := κ
  obtain ⟨hx, hb, hml, hown, hts, hU, hlk, hret, hnm, hR, hQ⟩ := C
  intro H locs ls hP hS hl
  refine hQ H locs n k _ (W.widen h1 h2 ?_)
  exact W.zret hx hb hret hn (fun t ht hW => ⟨⟨_, Pic, rfl, hp, by rw [ht]; exact hP⟩, hS.F ht⟩) hS.2.2 d hlk
theorem z_lret (C : ZC κ own nm cc nL (some .long) rm P) {v : Int64} (d : decode cc pc = .ok (.lreturn, 1)) (h1 : n ≤ rm.cells) (h2 : k ≤ rm.slots) (hp : P (some (.long v)) Pic) : Z κ Pic n k pc lv [.long v] := by
  obtain ⟨θ, p, l, e, R, s, m, args, below, meth, c, Q⟩ := κ
  obtain ⟨hx, hb, hml, hown, hts, hU, hlk, hret, hnm, hR, hQ⟩ := C
  intro H locs ls hP hS hl
  refine hQ H locs n k _ (W.widen h1 h2 ?_)
  exact W.lret hx hb hret (fun t ht hW => ⟨⟨_, Pic, rfl, hp, by rw [ht]; exact hP⟩, hS.F ht⟩) hS.2.2 d hlk
theorem z_vret (C : ZC κ own nm cc nL none rm P) (d : decode cc pc = .ok (.return_, 1)) (h1 : n ≤ rm.cells) (h2 : k ≤ rm.slots) (hp : P none Pic) : Z κ Pic n k pc lv [] := by
  obtain ⟨θ, p, l, e, R, s, m, args, below, meth, c, Q⟩ := κ
  obtain ⟨hx, hb, hml, hown, hts, hU, hlk, hret, hnm, hR, hQ⟩ := C
  intro H locs ls hP hS hl
  refine hQ H locs n k _ (W.widen h1 h2 ?_)
  exact W.vret hx hb hret (fun t ht hW => ⟨⟨_, Pic, rfl, hp, by rw [ht]; exact hP⟩, hS.F ht⟩) hS.2.2 d hlk
theorem z_aret {rt : FieldType} (C : ZC κ own nm cc nL (some rt) rm P) {v : Value} (d : decode cc pc = .ok (.areturn, 1)) (hn : (∃ n, rt = .object n) ∨ ∃ t, rt = .array t) (hv : v = .null ∨ ∃ a, v = .ref a) (h1 : n ≤ rm.cells) (h2 : k ≤ rm.slots) (hp : P (some v) Pic) : Z κ Pic n k pc lv [v] := by
  obtain ⟨θ, p, l, e, R, s, m, args, below, meth, c, Q⟩ := κ
  obtain ⟨hx, hb, hml, hown, hts, hU, hlk, hret, hnm, hR, hQ⟩ := C
  intro H locs ls hP hS hl
  refine hQ H locs n k _ (W.widen h1 h2 ?_)
  exact W.aret hx hb hret hn hv (fun t ht hW => ⟨⟨_, Pic, rfl, hp, by rw [ht]; exact hP⟩, hS.F ht⟩) hS.2.2 d hlk
theorem bI_nar (b : Bool) : narrow .boolean (.int (iI (bI b))) = .int (iI (bI b)) := by cases b <;> rfl
theorem z_rfv (r : Option Nat) : va_rf r = .null ∨ ∃ a, va_rf r = .ref a := by
  cases r with
  | none => exact Or.inl rfl
  | some a => exact Or.inr ⟨a, rfl⟩
end ZEnd
/-! ===== calls ===== -/
/-- an answer v0 and a picture Q0, no more -/
def zFn (v0 : Option Value) (Q0 : Heap → Prop) : Option Value → (Heap → Prop) → Prop := fun v Q => v = v0 ∧ Q = Q0
abbrev ZF (θ : zTh) (l : Launch) (y : MethodName) (cc : ByteArray) (nL : Nat) (ret : Option FieldType) (rm : Room) (As : List Value) (Pic : Heap → Prop) (v0 : Option Value) (Q0 : Heap → Prop) : Prop := ZM θ l y cc nL ret rm As Pic (zFn v0 Q0)
section ZCall
variable {p : Program} {l : Launch} {e : Env} {R : Room} {s : State} {m : MethodId} {args : Array Value} {below : List Frame} {meth : Method} {c : Code} {H : Heap} {locs : List Loc} {n k mc ms : Nat} {Q : State → Prop} {θ : zTh}
theorem z_run {P' : Option Value → (Heap → Prop) → Prop} {a : Array Value} {pc : Nat} {ls : Array Slot} {st rest : List Value} {lv : List (Nat × Value)} (hr : va_Run p l e R s m args below meth c H locs n k mc ms (F0 m pc ls st) rest (zQc θ P' a) (zA θ)) (hS : va_S (zA θ) s.heap H locs) (hl : lv_has ls c.maxLocals lv)
    (kk : ∀ (v : Option Value) (Pic1 : Heap → Prop), P' v Pic1 → Z (θ, p, l, e, R, s, m, args, below, meth, c, Q) Pic1 (n + mc) (k + ms) (pc + 3) lv (v.toList ++ rest)) : W p l e R s m args below meth c H locs n k Q (F0 m pc ls st) := by
  intro T hT X
  obtain ⟨v, st₀, t, T', L, h0, X', hL, e1, e2, ⟨⟨v', Pic1, hv, hp, hb⟩, hz, hk⟩, stp⟩ := hr T hT X
  cases hv
  rw [h0] at hz hk
  obtain ⟨t2, a1, b1⟩ := kk v Pic1 hp T'.heap (locs ++ L) ls (by rw [e1]; exact hb)
    ⟨Nat.le_trans hS.1 (by rw [e1]; exact hz), fun q h1 h2 => by rw [e1, hk q (Nat.lt_of_lt_of_le h1 hS.1) h2]; exact hS.2.1 q h1 h2, fun q hq => by
      rcases List.mem_append.mp hq with h | h
      · exact hS.2.2 q h
      · exact hL q h⟩ hl T' rfl X'
  exact ⟨t2, stp t2 a1, b1⟩
end ZCall
/-- an object of the number ci stands at b -/
def zrec (θ : zTh) (ci b : Nat) (Pic : Heap → Prop) : Prop := ∀ H, Pic H → ∃ fs, va_at θ.1 zCl (b, .inr (ci, fs)) H
theorem zrec_P {θ : zTh} {M N : zMap} {ci b : Nat} {fs : List Value} (h : M b = some (.inr (ci, fs))) : zrec θ ci b (zP θ M N) := fun _ hP => ⟨fs, (hP.1 b _ h).1⟩
theorem zrec_cell {θ : zTh} {ci b : Nat} {Pic : Heap → Prop} {Cn : String} {T : u_T} {N9 : Nat} {H : Heap} {s : State} (hr : zrec θ ci b Pic) (hc : zCl[ci]? = some (Cn, T, N9)) (hU : zU θ s) (hP : Pic H) : ∃ cell : Cell, H[b]? = some cell ∧ cell.vm.isStatics = false ∧ s.vm.findClass Cn = some cell.cls := by
  obtain ⟨fs, q', h1, cell, g1, g2, g3, -⟩ := hr H hP
  have hcc := (hU.2.2.2.1 ci _ hc).2.1
  exact ⟨cell, g1, by rw [g3]; rfl, by rw [g2]; exact hcc⟩
/-- a callee's name: its parameters, and no handle's -/
abbrev zNm (y : MethodName) (C : String) (n : Nat) : Prop := y.cls = C ∧ y.cls ≠ "java/lang/invoke/MethodHandle" ∧ y.cls ≠ "java/lang/invoke/VarHandle" ∧ (parseMethodDescriptor y.desc).map (fun d => d.parameters.length) = some n
section ZCallRows
variable {κ : zK} {own nm : String} {cc : ByteArray} {nL : Nat} {ret : Option FieldType} {rm : Room} {P : Option Value → (Heap → Prop) → Prop} {Pic : Heap → Prop} {n k pc : Nat} {lv : List (Nat × Value)} {st rest : List Value}
variable {θ : zTh} {l : Launch} {y : MethodName} {cc' : ByteArray} {nL' idx : Nat} {ret' : Option FieldType} {rm' : Room} {As : List Value} {P' : Option Value → (Heap → Prop) → Prop} {Cn : String}
theorem z_callV (C : ZC κ own nm cc nL ret rm P) (hκ : κ.1 = θ) (hκl : κ.2.2.1 = l) {ci b N9 : Nat} {T : u_T} (q : Nat) (hM : ZM θ l y cc' nL' ret' rm' (.ref b :: As) Pic P') (d : decode cc pc = .ok (.invokevirtual idx, 3)) (h1 : Cond.methodLink own idx y ∈ lw_all) (h2 : Cond.instanceMethod y ∈ lw_all) (h3 : Cond.selects Cn y y ∈ lw_all) (h4 : Cond.initialized Cn ∈ lw_all) (h5 : Cond.code y cc' nL' ret' ∈ lw_all) (hd : zNm y Cn As.length)
    (hf : rm'.frames + 1 ≤ rm.frames) (hlo : 8 + (nL' + 11) + rm'.locals ≤ rm.locals) (hce : n + rm'.cells ≤ rm.cells) (hsl : k + rm'.slots ≤ rm.slots) (hr : zrec θ ci b Pic) (hc : zCl[ci]? = some (Cn, T, N9)) (hst : st = As.reverse ++ .ref b :: rest) (hsz : (rest.map fun v => v.category).sum ≤ 8) (hq : pc + 3 = q)
    (kk : ∀ (v : Option Value) (Pic1 : Heap → Prop), P' v Pic1 → Z κ Pic1 (n + rm'.cells) (k + rm'.slots) q lv (v.toList ++ rest)) : Z κ Pic n k pc lv st := by
  subst hq; subst hst; subst hκ; subst hκl
  obtain ⟨θ, p, l, e, R, s, m, args, below, meth, c, Q⟩ := κ
  obtain ⟨hx, hb, hml, hown, hts, hU, hlk, hret, hnm, rfl, hQ⟩ := C
  intro H locs ls hP hS hl
  refine z_run (va_runV (As := As) (rest := rest) ⟨hx, hb, hml, hown, hts⟩ hM (cwV As.length hts (lw_V h1 h2 h3 h4 h5) rfl rfl rfl hd ⟨hf, hlo⟩) ⟨zPc_blind, zrec_cell hr hc hU hP, fun U hU' hW => ⟨rfl, by rw [hU']; exact hP, hU.on hS hU' hW⟩⟩ rfl rfl (by rw [← hml]; exact hl.1) rfl (lv_room hsz) d ⟨hce, hsl⟩) hS hl kk
theorem z_callS (C : ZC κ own nm cc nL ret rm P) (hκ : κ.1 = θ) (hκl : κ.2.2.1 = l) (q : Nat) (hM : ZM θ l y cc' nL' ret' rm' As Pic P') (d : decode cc pc = .ok (.invokestatic idx, 3)) (h1 : Cond.methodLink own idx y ∈ lw_all) (h2 : Cond.static y ∈ lw_all) (h4 : Cond.initialized y.cls ∈ lw_all) (h5 : Cond.code y cc' nL' ret' ∈ lw_all) (hd : zNm y Cn As.length)
    (hf : rm'.frames + 1 ≤ rm.frames) (hlo : 8 + (nL' + 11) + rm'.locals ≤ rm.locals) (hce : n + rm'.cells ≤ rm.cells) (hsl : k + rm'.slots ≤ rm.slots) (hst : st = As.reverse ++ rest) (hsz : (rest.map fun v => v.category).sum ≤ 8) (hq : pc + 3 = q)
    (kk : ∀ (v : Option Value) (Pic1 : Heap → Prop), P' v Pic1 → Z κ Pic1 (n + rm'.cells) (k + rm'.slots) q lv (v.toList ++ rest)) : Z κ Pic n k pc lv st := by
  subst hq; subst hst; subst hκ; subst hκl
  obtain ⟨θ, p, l, e, R, s, m, args, below, meth, c, Q⟩ := κ
  obtain ⟨hx, hb, hml, hown, hts, hU, hlk, hret, hnm, rfl, hQ⟩ := C
  intro H locs ls hP hS hl
  refine z_run (va_runS (As := As) (rest := rest) ⟨hx, hb, hml, hown, hts⟩ hM (va_cwS As.length hts (lw_S h1 h2 h4 h5) rfl rfl rfl ⟨hd.2.1, hd.2.2.1, hd.2.2.2⟩ ⟨hf, hlo⟩) ⟨zPc_blind, fun U hU' hW => ⟨rfl, by rw [hU']; exact hP, hU.on hS hU' hW⟩⟩ rfl rfl (by rw [← hml]; exact hl.1) rfl (lv_room hsz) d ⟨hce, hsl⟩) hS hl kk
theorem z_callI (C : ZC κ own nm cc nL ret rm P) (hκ : κ.1 = θ) (hκl : κ.2.2.1 = l) {b : Nat} (q : Nat) (hM : ZM θ l y cc' nL' none rm' (.ref b :: As) Pic P') (d : decode cc pc = .ok (.invokespecial idx, 3)) (h1 : Cond.methodLink own idx y ∈ lw_all) (h2 : Cond.instanceMethod y ∈ lw_all) (h4 : Cond.initialized y.cls ∈ lw_all) (h5 : Cond.code y cc' nL' none ∈ lw_all) (hd : zNm y Cn As.length) (hin : y.name = "<init>")
    (hf : rm'.frames + 1 ≤ rm.frames) (hlo : 8 + (nL' + 11) + rm'.locals ≤ rm.locals) (hce : n + rm'.cells ≤ rm.cells) (hsl : k + rm'.slots ≤ rm.slots) (hst : st = As.reverse ++ .ref b :: rest) (hsz : (rest.map fun v => v.category).sum ≤ 8) (hq : pc + 3 = q)
    (kk : ∀ (v : Option Value) (Pic1 : Heap → Prop), P' v Pic1 → Z κ Pic1 (n + rm'.cells) (k + rm'.slots) q lv (v.toList ++ rest)) : Z κ Pic n k pc lv st := by
  subst hq; subst hst; subst hκ; subst hκl
  obtain ⟨θ, p, l, e, R, s, m, args, below, meth, c, Q⟩ := κ
  obtain ⟨hx, hb, hml, hown, hts, hU, hlk, hret, hnm, rfl, hQ⟩ := C
  intro H locs ls hP hS hl
  refine z_run (va_runI (As := As) (rest := rest) ⟨hx, hb, hml, hown, hts⟩ hM (cwI As.length hts (lw_meth h5) rfl rfl rfl (hts _ h4) (hts _ h1) (hts _ h2) hin ⟨hd.2.1, hd.2.2.1, hd.2.2.2⟩ ⟨hf, hlo⟩) ⟨zPc_blind, fun U hU' hW => ⟨rfl, by rw [hU']; exact hP, hU.on hS hU' hW⟩⟩ rfl rfl (by rw [← hml]; exact hl.1) rfl (lv_room hsz) d ⟨hce, hsl⟩) hS hl kk
/-- Object's own constructor -/
theorem z_objInit (C : ZC κ own nm cc nL ret rm P) {a : Nat} (q : Nat) (d : decode cc pc = .ok (.invokespecial idx, 3)) (h1 : Cond.methodLink own idx objectInit ∈ lw_all) (h2 : Cond.instanceMethod objectInit ∈ lw_all) (h3 : Cond.code objectInit ⟨#[0xb1]⟩ 1 none ∈ lw_all) (hf : 1 ≤ rm.frames) (hlo : (rest.map fun v => v.category).sum + 12 ≤ rm.locals) (hq : pc + 3 = q) (kk : Z κ Pic n k q lv rest) : Z κ Pic n k pc lv (.ref a :: rest) := by
  subst hq
  obtain ⟨θ, p, l, e, R, s, m, args, below, meth, c, Q⟩ := κ
  obtain ⟨hx, hb, hml, hown, hts, hU, hlk, hret, hnm, rfl, hQ⟩ := C
  intro H locs ls hP hS hl
  refine W.objInit hx hb hown (hts _ h1) (hts _ h2) (hts _ h3) (g := F0 m pc ls (.ref a :: rest)) rfl hl.1 rfl d hf ?_ (kk H locs ls hP hS hl)
  show 2 * (F0 m pc ls (.ref a :: rest)).monitorRoom + _ + 12 ≤ _
  have : (F0 m pc ls (.ref a :: rest)).monitorRoom = 0 := rfl
  omega
end ZCallRows
section ZCallF
variable {κ : zK} {own nm : String} {cc : ByteArray} {nL : Nat} {ret : Option FieldType} {rm : Room} {P : Option Value → (Heap → Prop) → Prop} {Pic : Heap → Prop} {n k pc : Nat} {lv : List (Nat × Value)} {st rest : List Value}
variable {θ : zTh} {l : Launch} {y : MethodName} {cc' : ByteArray} {nL' idx : Nat} {ret' : Option FieldType} {rm' : Room} {As : List Value} {Pic' : Heap → Prop} {Cn : String}
theorem z_callVF (C : ZC κ own nm cc nL ret rm P) (hκ : κ.1 = θ) (hκl : κ.2.2.1 = l) {ci b N9 n' k' : Nat} {T : u_T} {v : Value} (q : Nat) (hM : ZF θ l y cc' nL' ret' rm' (.ref b :: As) Pic (some v) Pic') (d : decode cc pc = .ok (.invokevirtual idx, 3)) (h1 : Cond.methodLink own idx y ∈ lw_all) (h2 : Cond.instanceMethod y ∈ lw_all) (h3 : Cond.selects Cn y y ∈ lw_all) (h4 : Cond.initialized Cn ∈ lw_all) (h5 : Cond.code y cc' nL' ret' ∈ lw_all) (hd : zNm y Cn As.length)
    (hf : rm'.frames + 1 ≤ rm.frames) (hlo : 8 + (nL' + 11) + rm'.locals ≤ rm.locals) (hce : n + rm'.cells ≤ rm.cells) (hsl : k + rm'.slots ≤ rm.slots) (hr : zrec θ ci b Pic) (hc : zCl[ci]? = some (Cn, T, N9)) (hst : st = As.reverse ++ .ref b :: rest) (hsz : (rest.map fun v => v.category).sum ≤ 8) (hq : pc + 3 = q) (hn' : n + rm'.cells = n') (hk' : k + rm'.slots = k')
    (kk : Z κ Pic' n' k' q lv (v :: rest)) : Z κ Pic n k pc lv st := by
  subst hn'; subst hk'
  refine z_callV C hκ hκl q hM d h1 h2 h3 h4 h5 hd hf hlo hce hsl hr hc hst hsz hq (fun v' Pic1 h => ?_)
  obtain ⟨rfl, rfl⟩ := h
  exact kk
theorem z_callVF0 (C : ZC κ own nm cc nL ret rm P) (hκ : κ.1 = θ) (hκl : κ.2.2.1 = l) {ci b N9 n' k' : Nat} {T : u_T} (q : Nat) (hM : ZF θ l y cc' nL' ret' rm' (.ref b :: As) Pic none Pic') (d : decode cc pc = .ok (.invokevirtual idx, 3)) (h1 : Cond.methodLink own idx y ∈ lw_all) (h2 : Cond.instanceMethod y ∈ lw_all) (h3 : Cond.selects Cn y y ∈ lw_all) (h4 : Cond.initialized Cn ∈ lw_all) (h5 : Cond.code y cc' nL' ret' ∈ lw_all) (hd : zNm y Cn As.length)
    (hf : rm'.frames + 1 ≤ rm.frames) (hlo : 8 + (nL' + 11) + rm'.locals ≤ rm.locals) (hce : n + rm'.cells ≤ rm.cells) (hsl : k + rm'.slots ≤ rm.slots) (hr : zrec θ ci b Pic) (hc : zCl[ci]? = some (Cn, T, N9)) (hst : st = As.reverse ++ .ref b :: rest) (hsz : (rest.map fun v => v.category).sum ≤ 8) (hq : pc + 3 = q) (hn' : n + rm'.cells = n') (hk' : k + rm'.slots = k')
    (kk : Z κ Pic' n' k' q lv rest) : Z κ Pic n k pc lv st := by
  subst hn'; subst hk'
  refine z_callV C hκ hκl q hM d h1 h2 h3 h4 h5 hd hf hlo hce hsl hr hc hst hsz hq (fun v' Pic1 h => ?_)
  obtain ⟨rfl, rfl⟩ := h
  exact kk
theorem z_callSF (C : ZC κ own nm cc nL ret rm P) (hκ : κ.1 = θ) (hκl : κ.2.2.1 = l) {n' k' : Nat} {v : Value} (q : Nat) (hM : ZF θ l y cc' nL' ret' rm' As Pic (some v) Pic') (d : decode cc pc = .ok (.invokestatic idx, 3)) (h1 : Cond.methodLink own idx y ∈ lw_all) (h2 : Cond.static y ∈ lw_all) (h4 : Cond.initialized y.cls ∈ lw_all) (h5 : Cond.code y cc' nL' ret' ∈ lw_all) (hd : zNm y Cn As.length)
    (hf : rm'.frames + 1 ≤ rm.frames) (hlo : 8 + (nL' + 11) + rm'.locals ≤ rm.locals) (hce : n + rm'.cells ≤ rm.cells) (hsl : k + rm'.slots ≤ rm.slots) (hst : st = As.reverse ++ rest) (hsz : (rest.map fun v => v.category).sum ≤ 8) (hq : pc + 3 = q) (hn' : n + rm'.cells = n') (hk' : k + rm'.slots = k')
    (kk : Z κ Pic' n' k' q lv (v :: rest)) : Z κ Pic n k pc lv st := by
  subst hn'; subst hk'
  refine z_callS C hκ hκl q hM d h1 h2 h4 h5 hd hf hlo hce hsl hst hsz hq (fun v' Pic1 h => ?_)
  obtain ⟨rfl, rfl⟩ := h
  exact kk
theorem z_callSF0 (C : ZC κ own nm cc nL ret rm P) (hκ : κ.1 = θ) (hκl : κ.2.2.1 = l) {n' k' : Nat} (q : Nat) (hM : ZF θ l y cc' nL' ret' rm' As Pic none Pic') (d : decode cc pc = .ok (.invokestatic idx, 3)) (h1 : Cond.methodLink own idx y ∈ lw_all) (h2 : Cond.static y ∈ lw_all) (h4 : Cond.initialized y.cls ∈ lw_all) (h5 : Cond.code y cc' nL' ret' ∈ lw_all) (hd : zNm y Cn As.length)
    (hf : rm'.frames + 1 ≤ rm.frames) (hlo : 8 + (nL' + 11) + rm'.locals ≤ rm.locals) (hce : n + rm'.cells ≤ rm.cells) (hsl : k + rm'.slots ≤ rm.slots) (hst : st = As.reverse ++ rest) (hsz : (rest.map fun v => v.category).sum ≤ 8) (hq : pc + 3 = q) (hn' : n + rm'.cells = n') (hk' : k + rm'.slots = k')
    (kk : Z κ Pic' n' k' q lv rest) : Z κ Pic n k pc lv st := by
  subst hn'; subst hk'
  refine z_callS C hκ hκl q hM d h1 h2 h4 h5 hd hf hlo hce hsl hst hsz hq (fun v' Pic1 h => ?_)
  obtain ⟨rfl, rfl⟩ := h
  exact kk
theorem z_callIF (C : ZC κ own nm cc nL ret rm P) (hκ : κ.1 = θ) (hκl : κ.2.2.1 = l) {b n' k' : Nat} (q : Nat) (hM : ZF θ l y cc' nL' none rm' (.ref b :: As) Pic none Pic') (d : decode cc pc = .ok (.invokespecial idx, 3)) (h1 : Cond.methodLink own idx y ∈ lw_all) (h2 : Cond.instanceMethod y ∈ lw_all) (h4 : Cond.initialized y.cls ∈ lw_all) (h5 : Cond.code y cc' nL' none ∈ lw_all) (hd : zNm y Cn As.length) (hin : y.name = "<init>")
    (hf : rm'.frames + 1 ≤ rm.frames) (hlo : 8 + (nL' + 11) + rm'.locals ≤ rm.locals) (hce : n + rm'.cells ≤ rm.cells) (hsl : k + rm'.slots ≤ rm.slots) (hst : st = As.reverse ++ .ref b :: rest) (hsz : (rest.map fun v => v.category).sum ≤ 8) (hq : pc + 3 = q) (hn' : n + rm'.cells = n') (hk' : k + rm'.slots = k')
    (kk : Z κ Pic' n' k' q lv rest) : Z κ Pic n k pc lv st := by
  subst hn'; subst hk'
  refine z_callI C hκ hκl q hM d h1 h2 h4 h5 hd hin hf hlo hce hsl hst hsz hq (fun v' Pic1 h => ?_)
  obtain ⟨rfl, rfl⟩ := h
  exact kk
end ZCallF
/-! ===== fields and arrays ===== -/
/-- two fields that can't be one: by their names, or by who declares them -/
abbrev zdst (T : u_T) (a b : Nat) : Prop := (T a).2.1 ≠ (T b).2.1 ∨ ((T a).1 ≠ (T b).1 ∧ (T a).2.2.2 = true ∧ (T b).2.2.2 = true)
abbrev zcls (ci : Nat) (Cn : String) (T : u_T) (N9 : Nat) (ty0 : Nat → FieldType) : Prop := zCl[ci]? = some (Cn, T, N9) ∧ (∀ w ∈ u_ws Cn T N9, w ∈ lw_all) ∧ (∀ k, k < N9 → parseFieldDescriptor (T k).2.2.1 = some (ty0 k)) ∧ (∀ a, a < N9 → ∀ b, b < N9 → a ≠ b → zdst T a b)
theorem z_apart {args : Array Value} {s : State} {D : va_G} {tys : List (ClassId × FieldType)} {ci N9 : Nat} {Cn : String} {T : u_T} {ty0 : Nat → FieldType} (hts : ∀ w ∈ lw_all, w.before args s = true) (h9 : zcls ci Cn T N9 ty0) (hK : va_K D zCl tys s) : ∀ x y, x < N9 → y < N9 → x ≠ y → (D.2 ci) x ≠ (D.2 ci) y := by
  intro x y hx hy hne
  obtain ⟨hS, -⟩ := hK.1 ci _ h9.1
  obtain ⟨_, _, _, fa, hia, ea⟩ := hS x hx
  obtain ⟨_, _, _, fb, hib, eb⟩ := hS y hy
  rw [← ea, ← eb]
  rcases h9.2.2.2 x hx y hy hne with hnm | ⟨ho, hf1, hf2⟩
  · refine u_apart (u_lays hts h9.2.1 hx) (u_lays hts h9.2.1 hy) hia hib ?_
    rw [(State.fieldFound?_type hia (h9.2.2.1 x hx)).1, (State.fieldFound?_type hib (h9.2.2.1 y hy)).1]
    exact hnm
  · have l1 := hts _ (h9.2.1 _ (u_in_lay hx))
    have l2 := hts _ (h9.2.1 _ (u_in_lay hy))
    unfold u_lay at l1 l2
    rw [if_pos hf1] at l1
    rw [if_pos hf2] at l2
    obtain ⟨c1, _, c1', k1, i1, f1, r1, -, r3, -, -, -, r7, -, d1, q1, q2, -⟩ := Cond.laysFinal_spec l1
    obtain ⟨c2, _, c2', k2, i2, f2, t1, -, t3, -, -, -, t7, -, d2, p1, p2, -⟩ := Cond.laysFinal_spec l2
    cases r1.symm.trans t1
    cases hia.symm.trans r3
    cases hib.symm.trans t3
    intro hs
    rw [hs] at q1
    cases q1.symm.trans p1
    obtain ⟨k9, u1, u2⟩ := Vm.findClass_spec r7
    obtain ⟨k8, v1, v2⟩ := Vm.findClass_spec t7
    cases (State.fieldFound?_class r3).symm.trans u1
    cases (State.fieldFound?_class t3).symm.trans v1
    exact ho (by rw [← u2, ← v2, ← q2, ← p2])
theorem zin_of {X : Int} {len : Nat} (h0 : 0 ≤ X) (h1 : X < (len : Int)) (h2 : len ≤ 2147483647) : vp_in (iI X) len ∧ (iI X).toNatClampNeg = X.toNat := by
  have hr : inR X := ⟨by omega, by omega⟩
  refine ⟨vp_in_iff.mpr (by rw [iI_toInt hr]; exact ⟨h0, h1⟩), ?_⟩
  show (iI X).toInt.toNat = _
  rw [iI_toInt hr]
/-- two things that differ stand apart -/
theorem zne {M : zMap} {a b : Nat} {e1 e2 : va_E} (h1 : M a = some e1) (h2 : M b = some e2) (h : e1 ≠ e2) : a ≠ b := fun z => h (by subst z; rw [h1] at h2; exact Option.some.inj h2)
theorem zne_n {M : zMap} {a b : Nat} {e1 : va_E} (h1 : M a = some e1) (h2 : M b = none) : a ≠ b := fun z => by subst z; rw [h1] at h2; cases h2
theorem zne_ci {ci cj : Nat} {fs gs : List Value} (h : ci ≠ cj) : (.inr (ci, fs) : va_E) ≠ .inr (cj, gs) := fun z => h (by cases z; rfl)
theorem zne_lr {x : ClassId × vp_A} {y : Nat × List Value} : (.inl x : va_E) ≠ .inr y := fun z => by cases z
theorem zne_rl {x : ClassId × vp_A} {y : Nat × List Value} : (.inr y : va_E) ≠ .inl x := fun z => by cases z
section ZHeap
variable {κ : zK} {own nm : String} {cc : ByteArray} {nL : Nat} {ret : Option FieldType} {rm : Room} {P : Option Value → (Heap → Prop) → Prop} {n k pc : Nat} {lv : List (Nat × Value)} {st rest : List Value}
variable {θ : zTh} {M N : zMap} {a ci index N9 : Nat} {ref Cn : String} {T : u_T} {ty0 : Nat → FieldType} {fs : List Value}
theorem z_getf (C : ZC κ own nm cc nL ret rm P) (hκ : κ.1 = θ) {v : Value} (q kf : Nat) (h9 : zcls ci Cn T N9 ty0) (hM : M a = some (.inr (ci, fs))) (hk : kf < N9) (hlink : Cond.fieldLink own index ref (T kf).2.1 (T kf).2.2.1 ∈ lw_all) (hsame : ref = (T kf).1 ∨ Cond.sameField ref (T kf).1 (T kf).2.1 (T kf).2.2.1 ∈ lw_all) (hv : fs[kf]? = some v) (d : decode cc pc = .ok (.getfield index, 3)) (hq : pc + 3 = q) (kk : Z κ (zP θ M N) n k q lv (v :: rest)) : Z κ (zP θ M N) n k pc lv (.ref a :: rest) := by
  obtain ⟨θ', p, l, e, R, s, m, args, below, meth, c, Q⟩ := κ
  obtain ⟨hx, hb, hml, hown, hts, hU, hlk, hret, hnm, hR, hQ⟩ := C
  have hκ : θ' = θ := hκ
  subst hκ
  have hK := hU.2.2.2
  subst hq
  intro H locs ls hP hS hl
  obtain ⟨ws, w1, w2, w3⟩ := hP.ws
  obtain ⟨q0, hq0⟩ := w3.2.1 a _ hM
  exact va_get hx hb hts h9.2.1 hown hK w1 q0 hq0 h9.1 kf hk (hts _ hlink) (fun x hx => hsame.elim (fun h => by rw [h]; exact hx) (fun h => u_same (hts _ h) x hx)) hv d (kk H locs ls hP hS hl)
theorem z_putf (C : ZC κ own nm cc nL ret rm P) (hκ : κ.1 = θ) {v : Value} {fs' : List Value} (q kf : Nat) (h9 : zcls ci Cn T N9 ty0) (hM : M a = some (.inr (ci, fs))) (hk : kf < N9) (hlink : Cond.fieldLink own index ref (T kf).2.1 (T kf).2.2.1 ∈ lw_all) (hsame : ref = (T kf).1 ∨ Cond.sameField ref (T kf).1 (T kf).2.1 (T kf).2.2.1 ∈ lw_all) (hfin : (T kf).2.2.2 = false) (hn : narrow (ty0 kf) v = v) (hfit : fits (ty0 kf) v = true) (hl9 : kf < fs.length) (hfs : fs.set kf v = fs') (d : decode cc pc = .ok (.putfield index, 3)) (hq : pc + 3 = q) (kk : Z κ (zP θ (zup M a (.inr (ci, fs'))) N) n k q lv rest) : Z κ (zP θ M N) n k pc lv (v :: .ref a :: rest) := by
  obtain ⟨θ', p, l, e, R, s, m, args, below, meth, c, Q⟩ := κ
  obtain ⟨hx, hb, hml, hown, hts, hU, hlk, hret, hnm, hR, hQ⟩ := C
  have hκ : θ' = θ := hκ
  subst hκ
  have hK := hU.2.2.2
  subst hq; subst hfs
  intro H locs ls hP hS hl
  obtain ⟨ws, w1, w2, w3⟩ := hP.ws
  obtain ⟨q0, hq0⟩ := w3.2.1 a _ hM
  have hap := z_apart hts h9 hK
  obtain ⟨r, h1, cell, q1, q2, q3, q4⟩ := w1 q0 _ hq0
  have hr : r = (Cn, T, N9) := Option.some.inj (h1.symm.trans h9.1)
  subst hr
  obtain ⟨hS1, hfc, kC, hkC, hkind⟩ := hK.1 ci _ h9.1
  obtain ⟨cf, kf9, fi, f, hi, hsl⟩ := hS1 kf hk
  have hlay := hts _ (h9.2.1 _ (u_in_lay hk))
  unfold u_lay at hlay
  rw [if_neg (by rw [hfin]; decide)] at hlay
  have hst := (u_facts hfc hkC (u_lays hts h9.2.1 hk) hi).1
  have h6 := u_store hfc hkC hkind hlay hi (h9.2.2.1 kf hk) hn hfit
  have hsm := hsame.elim (fun h => by rw [h]; exact hi) (fun h => u_same (hts _ h) _ hi)
  refine W.putK hx hb (f := f) ⟨hown, hts _ hlink, ⟨_, _, _, hsm⟩, hst⟩ (by rw [q2]; exact h6) q1 q3 (by rw [hsl]; exact k2_hasslot (q4 kf hk)) rfl rfl d fun H' e1 e2 e3 => ?_
  rw [hsl] at e1 ⊢
  exact kk H' _ ls (zL.set hP w2 w3 hM hq0 (w1.set w2 hq0 ⟨_, h9.1, t_OB.to (V := updV (vp_V fs) kf v) ⟨_, e1, q2, q3, t_set q4 hap hk v⟩ (fun j _ => vp_updV_set hl9 v j)⟩ e3)) (hS.put e2 e3 (w2.2 q0 _ hq0)) hl
theorem z_putF (C : ZC κ own "<init>" cc nL ret rm P) (hκ : κ.1 = θ) {v : Value} {fs' : List Value} (q kf : Nat) (h9 : zcls ci Cn T N9 ty0) (hM : M a = some (.inr (ci, fs))) (hk : kf < N9) (hlink : Cond.fieldLink own index ref (T kf).2.1 (T kf).2.2.1 ∈ lw_all) (hsame : ref = (T kf).1 ∨ Cond.sameField ref (T kf).1 (T kf).2.1 (T kf).2.2.1 ∈ lw_all) (hfin : (T kf).2.2.2 = true) (hdecl : (T kf).1 = own) (hn : narrow (ty0 kf) v = v) (hfit : fits (ty0 kf) v = true) (hl9 : kf < fs.length) (hfs : fs.set kf v = fs') (d : decode cc pc = .ok (.putfield index, 3)) (hq : pc + 3 = q) (kk : Z κ (zP θ (zup M a (.inr (ci, fs'))) N) n k q lv rest) : Z κ (zP θ M N) n k pc lv (v :: .ref a :: rest) := by
  obtain ⟨θ', p, l, e, R, s, m, args, below, meth, c, Q⟩ := κ
  obtain ⟨hx, hb, hml, hown, hts, hU, hlk, hret, hnm, hR, hQ⟩ := C
  have hκ : θ' = θ := hκ
  subst hκ
  have hK := hU.2.2.2
  subst hq; subst hfs
  intro H locs ls hP hS hl
  obtain ⟨ws, w1, w2, w3⟩ := hP.ws
  obtain ⟨q0, hq0⟩ := w3.2.1 a _ hM
  have hap := z_apart hts h9 hK
  obtain ⟨r, h1, cell, q1, q2, q3, q4⟩ := w1 q0 _ hq0
  have hr : r = (Cn, T, N9) := Option.some.inj (h1.symm.trans h9.1)
  subst hr
  obtain ⟨hS1, hfc, kC, hkC, hkind⟩ := hK.1 ci _ h9.1
  obtain ⟨cf, kf9, fi, f, hi, hsl⟩ := hS1 kf hk
  have hlay := hts _ (h9.2.1 _ (u_in_lay hk))
  unfold u_lay at hlay
  rw [if_pos hfin] at hlay
  have hst := (u_facts hfc hkC (u_lays hts h9.2.1 hk) hi).1
  have hcf : m.cls = cf := by
    obtain ⟨_, _, c', _, _, _, -, -, hf', -, -, -, hown2, -⟩ := Cond.laysFinal_spec hlay
    have e1 : c' = cf := by have := hi.symm.trans hf'; simp at this; exact this.1.symm
    rw [hdecl] at hown2
    rw [← e1]; exact Option.some.inj (hown.symm.trans hown2)
  have h6 := u_fits hfc hkC hkind (Or.inr hlay) hi (h9.2.2.1 kf hk) hn hfit
  have hsm := hsame.elim (fun h => by rw [h]; exact hi) (fun h => u_same (hts _ h) _ hi)
  refine W.putFinK hx hb hown (hts _ hlink) hsm hst hcf hnm (by rw [q2]; exact h6) q1 q3 (by rw [hsl]; exact k2_hasslot (q4 kf hk)) rfl rfl d fun H' e1 e2 e3 => ?_
  rw [hsl] at e1 ⊢
  exact kk H' _ ls (zL.set hP w2 w3 hM hq0 (w1.set w2 hq0 ⟨_, h9.1, t_OB.to (V := updV (vp_V fs) kf v) ⟨_, e1, q2, q3, t_set q4 hap hk v⟩ (fun j _ => vp_updV_set hl9 v j)⟩ e3)) (hS.put e2 e3 (w2.2 q0 _ hq0)) hl
theorem z_new (C : ZC κ own nm cc nL ret rm P) (hκ : κ.1 = θ) (q : Nat) (h9 : zcls ci Cn T N9 ty0) (hcl : Cond.classLink own index Cn ∈ lw_all) (hins : Cond.instantiable Cn N9 ∈ lw_all) (hini : Cond.initialized Cn ∈ lw_all) (hfs : ∀ j, j < N9 → defaultValue (ty0 j) = vp_V fs j) (hce : n + 1 ≤ rm.cells) (hsl : k + N9 ≤ rm.slots) (d : decode cc pc = .ok (.new index, 3)) (hq : pc + 3 = q) (kk : ∀ a : Nat, M a = none → N a = none → Z κ (zP θ (zup M a (.inr (ci, fs))) N) (n + 1) (k + N9) q lv (.ref a :: rest)) : Z κ (zP θ M N) n k pc lv rest := by
  obtain ⟨θ', p, l, e, R, s, m, args, below, meth, c, Q⟩ := κ
  obtain ⟨hx, hb, hml, hown, hts, hU, hlk, hret, hnm, hR, hQ⟩ := C
  have hκ : θ' = θ := hκ
  subst hκ
  have hK := hU.2.2.2
  subst hq; subst hR
  intro H locs ls hP hS hl
  obtain ⟨ws, w1, w2, w3⟩ := hP.ws
  refine va_new hx hb hts h9.2.1 ty0 h9.2.2.1 hown (hts _ hcl) (hts _ hins) (hts _ hini) hK w1 w2 hS (fun z hz => Nat.le_trans hU.2.1 hz) h9.1 hfs hce hsl d (fun a H1 g1 g2 g3 => ?_)
  obtain ⟨f1, f2, f3⟩ := zL.push hP w1 w3 g1 g2
  exact kk a f2 f3 H1 locs ls f1 g3 hl

theorem z_iald (C : ZC κ own nm cc nL ret rm P) (hκ : κ.1 = θ) {len : Nat} {f : Nat → Int32} {v : Int32} {X : Int} (q : Nat) (hM : M a = some (.inl (θ.2.1 4, len, .inl f))) (h0 : 0 ≤ X) (h1 : X < (len : Int)) (h2 : len ≤ 2147483647) (hv : f X.toNat = v) (d : decode cc pc = .ok (.iaload, 1)) (hq : pc + 1 = q) (kk : Z κ (zP θ M N) n k q lv (.int v :: rest)) : Z κ (zP θ M N) n k pc lv (.int (iI X) :: .ref a :: rest) := by
  obtain ⟨θ', p, l, e, R, s, m, args, below, meth, c, Q⟩ := κ
  obtain ⟨hx, hb, hml, hown, hts, hU, hlk, hret, hnm, hR, hQ⟩ := C
  have hκ : θ' = θ := hκ
  subst hκ
  have hK := hU.2.2.2
  subst hq; subst hv
  intro H locs ls hP hS hl
  obtain ⟨ws, w1, w2, w3⟩ := hP.ws
  obtain ⟨q0, hq0⟩ := w3.2.1 a _ hM
  obtain ⟨i1, i2⟩ := zin_of h0 h1 h2
  refine va_iald hx hb hK w1 q0 4 hq0 rfl i1 d ?_
  rw [i2]
  exact kk H locs ls hP hS hl
theorem z_iast (C : ZC κ own nm cc nL ret rm P) (hκ : κ.1 = θ) {len : Nat} {f f' : Nat → Int32} {x : Int32} {X : Int} (q : Nat) (hM : M a = some (.inl (θ.2.1 4, len, .inl f))) (h0 : 0 ≤ X) (h1 : X < (len : Int)) (h2 : len ≤ 2147483647) (hf : upd f X.toNat x = f') (d : decode cc pc = .ok (.iastore, 1)) (hq : pc + 1 = q) (kk : Z κ (zP θ (zup M a (.inl (θ.2.1 4, len, .inl f'))) N) n k q lv rest) : Z κ (zP θ M N) n k pc lv (.int x :: .int (iI X) :: .ref a :: rest) := by
  obtain ⟨θ', p, l, e, R, s, m, args, below, meth, c, Q⟩ := κ
  obtain ⟨hx, hb, hml, hown, hts, hU, hlk, hret, hnm, hR, hQ⟩ := C
  have hκ : θ' = θ := hκ
  subst hκ
  have hK := hU.2.2.2
  subst hq; subst hf
  intro H locs ls hP hS hl
  obtain ⟨ws, w1, w2, w3⟩ := hP.ws
  obtain ⟨q0, hq0⟩ := w3.2.1 a _ hM
  obtain ⟨i1, i2⟩ := zin_of h0 h1 h2
  refine va_iast hx hb hK w1 w2 hS q0 4 hq0 rfl i1 d (fun H1 locs1 g1 g2 g3 => ?_)
  rw [i2] at g1
  exact kk H1 locs1 ls (zL.set hP w2 w3 hM hq0 g1) g3 hl
theorem z_newa_i (C : ZC κ own nm cc nL ret rm P) (hκ : κ.1 = θ) {X : Int} (q len : Nat) {f : Nat → Int32} (hX : X = (len : Int)) (hlen : len ≤ 1000000) (hf : ∀ j, .int (f j) = defaultValue .int) (harr : Cond.arrayClass .int ∈ lw_all) (hce : n + 1 ≤ rm.cells) (hsl : k + len ≤ rm.slots) (d : decode cc pc = .ok (.newarray .int, 2)) (hq : pc + 2 = q) (kk : ∀ a : Nat, M a = none → N a = none → Z κ (zP θ (zup M a (.inl (θ.2.1 4, len, .inl f))) N) (n + 1) (k + len) q lv (.ref a :: rest)) : Z κ (zP θ M N) n k pc lv (.int (iI X) :: rest) := by
  obtain ⟨θ', p, l, e, R, s, m, args, below, meth, c, Q⟩ := κ
  obtain ⟨hx, hb, hml, hown, hts, hU, hlk, hret, hnm, hR, hQ⟩ := C
  have hκ : θ' = θ := hκ
  subst hκ
  have hK := hU.2.2.2
  subst hq; subst hR; subst hX
  intro H locs ls hP hS hl
  obtain ⟨ws, w1, w2, w3⟩ := hP.ws
  have hr : inR (len : Int) := ⟨by omega, by omega⟩
  refine va_newa (atype := .int) (a0 := (len, .inl f)) (ty := .int) hx hb (hts _ harr) rfl hK w1 w2 hS (fun z hz => Nat.le_trans hU.2.1 hz) (N' := len) (fun cA => ?_) ?_ ?_ ?_ hce hsl d (fun a cA H1 gK g1 g2 g3 => ?_)
  · show arrV cA len (fun j => .int (f j)) = arrV cA len (fun _ => defaultValue .int)
    congr 1
    funext j
    exact hf j
  · rw [Int32.lt_iff_toInt_lt, iI_toInt hr]
    have : (0 : Int32).toInt = 0 := by decide
    omega
  · show (iI (len : Int)).toInt.toNat = len
    rw [iI_toInt hr]; omega
  · have : componentBytes FieldType.int ≤ 8 := by decide
    have := Nat.mul_le_mul_left len this
    omega
  · have e : cA = θ'.2.1 4 := by
      have h1 := (gK.2 (zTys θ').length (cA, .int) (by rw [List.getElem?_append_right (Nat.le_refl _), Nat.sub_self]; rfl)).2
      have h2 := (hK.2 4 (θ'.2.1 4, .int) rfl).2
      exact Option.some.inj (h1.symm.trans h2)
    subst e
    obtain ⟨f1, f2, f3⟩ := zL.push hP w1 w3 g1 g2
    exact kk a f2 f3 H1 locs ls f1 g3 hl
theorem z_lald (C : ZC κ own nm cc nL ret rm P) (hκ : κ.1 = θ) {len : Nat} {f : Nat → Int64} {v : Int64} {X : Int} (q : Nat) (hM : M a = some (.inl (θ.2.1 5, len, .inr (.inl f)))) (h0 : 0 ≤ X) (h1 : X < (len : Int)) (h2 : len ≤ 2147483647) (hv : f X.toNat = v) (d : decode cc pc = .ok (.laload, 1)) (hq : pc + 1 = q) (kk : Z κ (zP θ M N) n k q lv (.long v :: rest)) : Z κ (zP θ M N) n k pc lv (.int (iI X) :: .ref a :: rest) := by
  obtain ⟨θ', p, l, e, R, s, m, args, below, meth, c, Q⟩ := κ
  obtain ⟨hx, hb, hml, hown, hts, hU, hlk, hret, hnm, hR, hQ⟩ := C
  have hκ : θ' = θ := hκ
  subst hκ
  have hK := hU.2.2.2
  subst hq; subst hv
  intro H locs ls hP hS hl
  obtain ⟨ws, w1, w2, w3⟩ := hP.ws
  obtain ⟨q0, hq0⟩ := w3.2.1 a _ hM
  obtain ⟨i1, i2⟩ := zin_of h0 h1 h2
  refine va_lald hx hb hK w1 q0 5 hq0 rfl i1 d ?_
  rw [i2]
  exact kk H locs ls hP hS hl
theorem z_last (C : ZC κ own nm cc nL ret rm P) (hκ : κ.1 = θ) {len : Nat} {f f' : Nat → Int64} {x : Int64} {X : Int} (q : Nat) (hM : M a = some (.inl (θ.2.1 5, len, .inr (.inl f)))) (h0 : 0 ≤ X) (h1 : X < (len : Int)) (h2 : len ≤ 2147483647) (hf : vp_updL f X.toNat x = f') (d : decode cc pc = .ok (.lastore, 1)) (hq : pc + 1 = q) (kk : Z κ (zP θ (zup M a (.inl (θ.2.1 5, len, .inr (.inl f')))) N) n k q lv rest) : Z κ (zP θ M N) n k pc lv (.long x :: .int (iI X) :: .ref a :: rest) := by
  obtain ⟨θ', p, l, e, R, s, m, args, below, meth, c, Q⟩ := κ
  obtain ⟨hx, hb, hml, hown, hts, hU, hlk, hret, hnm, hR, hQ⟩ := C
  have hκ : θ' = θ := hκ
  subst hκ
  have hK := hU.2.2.2
  subst hq; subst hf
  intro H locs ls hP hS hl
  obtain ⟨ws, w1, w2, w3⟩ := hP.ws
  obtain ⟨q0, hq0⟩ := w3.2.1 a _ hM
  obtain ⟨i1, i2⟩ := zin_of h0 h1 h2
  refine va_last hx hb hK w1 w2 hS q0 5 hq0 rfl i1 d (fun H1 locs1 g1 g2 g3 => ?_)
  rw [i2] at g1
  exact kk H1 locs1 ls (zL.set hP w2 w3 hM hq0 g1) g3 hl
theorem z_newa_l (C : ZC κ own nm cc nL ret rm P) (hκ : κ.1 = θ) {X : Int} (q len : Nat) {f : Nat → Int64} (hX : X = (len : Int)) (hlen : len ≤ 1000000) (hf : ∀ j, .long (f j) = defaultValue .long) (harr : Cond.arrayClass .long ∈ lw_all) (hce : n + 1 ≤ rm.cells) (hsl : k + len ≤ rm.slots) (d : decode cc pc = .ok (.newarray .long, 2)) (hq : pc + 2 = q) (kk : ∀ a : Nat, M a = none → N a = none → Z κ (zP θ (zup M a (.inl (θ.2.1 5, len, .inr (.inl f)))) N) (n + 1) (k + len) q lv (.ref a :: rest)) : Z κ (zP θ M N) n k pc lv (.int (iI X) :: rest) := by
  obtain ⟨θ', p, l, e, R, s, m, args, below, meth, c, Q⟩ := κ
  obtain ⟨hx, hb, hml, hown, hts, hU, hlk, hret, hnm, hR, hQ⟩ := C
  have hκ : θ' = θ := hκ
  subst hκ
  have hK := hU.2.2.2
  subst hq; subst hR; subst hX
  intro H locs ls hP hS hl
  obtain ⟨ws, w1, w2, w3⟩ := hP.ws
  have hr : inR (len : Int) := ⟨by omega, by omega⟩
  refine va_newa (atype := .long) (a0 := (len, .inr (.inl f))) (ty := .long) hx hb (hts _ harr) rfl hK w1 w2 hS (fun z hz => Nat.le_trans hU.2.1 hz) (N' := len) (fun cA => ?_) ?_ ?_ ?_ hce hsl d (fun a cA H1 gK g1 g2 g3 => ?_)
  · show arrV cA len (fun j => .long (f j)) = arrV cA len (fun _ => defaultValue .long)
    congr 1
    funext j
    exact hf j
  · rw [Int32.lt_iff_toInt_lt, iI_toInt hr]
    have : (0 : Int32).toInt = 0 := by decide
    omega
  · show (iI (len : Int)).toInt.toNat = len
    rw [iI_toInt hr]; omega
  · have : componentBytes FieldType.long ≤ 8 := by decide
    have := Nat.mul_le_mul_left len this
    omega
  · have e : cA = θ'.2.1 5 := by
      have h1 := (gK.2 (zTys θ').length (cA, .long) (by rw [List.getElem?_append_right (Nat.le_refl _), Nat.sub_self]; rfl)).2
      have h2 := (hK.2 5 (θ'.2.1 5, .long) rfl).2
      exact Option.some.inj (h1.symm.trans h2)
    subst e
    obtain ⟨f1, f2, f3⟩ := zL.push hP w1 w3 g1 g2
    exact kk a f2 f3 H1 locs ls f1 g3 hl
theorem z_zald (C : ZC κ own nm cc nL ret rm P) (hκ : κ.1 = θ) {len : Nat} {f : Nat → Int32} {v : Int32} {X : Int} (q : Nat) (hM : M a = some (.inl (θ.2.1 0, len, .inl f))) (h0 : 0 ≤ X) (h1 : X < (len : Int)) (h2 : len ≤ 2147483647) (hv : f X.toNat = v) (d : decode cc pc = .ok (.baload, 1)) (hq : pc + 1 = q) (kk : Z κ (zP θ M N) n k q lv (.int v :: rest)) : Z κ (zP θ M N) n k pc lv (.int (iI X) :: .ref a :: rest) := by
  obtain ⟨θ', p, l, e, R, s, m, args, below, meth, c, Q⟩ := κ
  obtain ⟨hx, hb, hml, hown, hts, hU, hlk, hret, hnm, hR, hQ⟩ := C
  have hκ : θ' = θ := hκ
  subst hκ
  have hK := hU.2.2.2
  subst hq; subst hv
  intro H locs ls hP hS hl
  obtain ⟨ws, w1, w2, w3⟩ := hP.ws
  obtain ⟨q0, hq0⟩ := w3.2.1 a _ hM
  obtain ⟨i1, i2⟩ := zin_of h0 h1 h2
  refine va_zald hx hb hK w1 q0 0 hq0 rfl i1 d ?_
  rw [i2]
  exact kk H locs ls hP hS hl
theorem z_zast (C : ZC κ own nm cc nL ret rm P) (hκ : κ.1 = θ) {len : Nat} {f f' : Nat → Int32} {x : Int32} {X : Int} (q : Nat) (hM : M a = some (.inl (θ.2.1 0, len, .inl f))) (h0 : 0 ≤ X) (h1 : X < (len : Int)) (h2 : len ≤ 2147483647) (hx9 : vp_nar .boolean x = x) (hf : upd f X.toNat x = f') (d : decode cc pc = .ok (.bastore, 1)) (hq : pc + 1 = q) (kk : Z κ (zP θ (zup M a (.inl (θ.2.1 0, len, .inl f'))) N) n k q lv rest) : Z κ (zP θ M N) n k pc lv (.int x :: .int (iI X) :: .ref a :: rest) := by
  obtain ⟨θ', p, l, e, R, s, m, args, below, meth, c, Q⟩ := κ
  obtain ⟨hx, hb, hml, hown, hts, hU, hlk, hret, hnm, hR, hQ⟩ := C
  have hκ : θ' = θ := hκ
  subst hκ
  have hK := hU.2.2.2
  subst hq; subst hf
  intro H locs ls hP hS hl
  obtain ⟨ws, w1, w2, w3⟩ := hP.ws
  obtain ⟨q0, hq0⟩ := w3.2.1 a _ hM
  obtain ⟨i1, i2⟩ := zin_of h0 h1 h2
  refine va_zast hx hb hK w1 w2 hS q0 0 hq0 rfl i1 d (fun H1 locs1 g1 g2 g3 => ?_)
  rw [i2, hx9] at g1
  exact kk H1 locs1 ls (zL.set hP w2 w3 hM hq0 g1) g3 hl
theorem z_newa_z (C : ZC κ own nm cc nL ret rm P) (hκ : κ.1 = θ) {X : Int} (q len : Nat) {f : Nat → Int32} (hX : X = (len : Int)) (hlen : len ≤ 1000000) (hf : ∀ j, .int (f j) = defaultValue .boolean) (harr : Cond.arrayClass .boolean ∈ lw_all) (hce : n + 1 ≤ rm.cells) (hsl : k + len ≤ rm.slots) (d : decode cc pc = .ok (.newarray .boolean, 2)) (hq : pc + 2 = q) (kk : ∀ a : Nat, M a = none → N a = none → Z κ (zP θ (zup M a (.inl (θ.2.1 0, len, .inl f))) N) (n + 1) (k + len) q lv (.ref a :: rest)) : Z κ (zP θ M N) n k pc lv (.int (iI X) :: rest) := by
  obtain ⟨θ', p, l, e, R, s, m, args, below, meth, c, Q⟩ := κ
  obtain ⟨hx, hb, hml, hown, hts, hU, hlk, hret, hnm, hR, hQ⟩ := C
  have hκ : θ' = θ := hκ
  subst hκ
  have hK := hU.2.2.2
  subst hq; subst hR; subst hX
  intro H locs ls hP hS hl
  obtain ⟨ws, w1, w2, w3⟩ := hP.ws
  have hr : inR (len : Int) := ⟨by omega, by omega⟩
  refine va_newa (atype := .boolean) (a0 := (len, .inl f)) (ty := .boolean) hx hb (hts _ harr) rfl hK w1 w2 hS (fun z hz => Nat.le_trans hU.2.1 hz) (N' := len) (fun cA => ?_) ?_ ?_ ?_ hce hsl d (fun a cA H1 gK g1 g2 g3 => ?_)
  · show arrV cA len (fun j => .int (f j)) = arrV cA len (fun _ => defaultValue .boolean)
    congr 1
    funext j
    exact hf j
  · rw [Int32.lt_iff_toInt_lt, iI_toInt hr]
    have : (0 : Int32).toInt = 0 := by decide
    omega
  · show (iI (len : Int)).toInt.toNat = len
    rw [iI_toInt hr]; omega
  · have : componentBytes FieldType.boolean ≤ 8 := by decide
    have := Nat.mul_le_mul_left len this
    omega
  · have e : cA = θ'.2.1 0 := by
      have h1 := (gK.2 (zTys θ').length (cA, .boolean) (by rw [List.getElem?_append_right (Nat.le_refl _), Nat.sub_self]; rfl)).2
      have h2 := (hK.2 0 (θ'.2.1 0, .boolean) rfl).2
      exact Option.some.inj (h1.symm.trans h2)
    subst e
    obtain ⟨f1, f2, f3⟩ := zL.push hP w1 w3 g1 g2
    exact kk a f2 f3 H1 locs ls f1 g3 hl
theorem z_cald (C : ZC κ own nm cc nL ret rm P) (hκ : κ.1 = θ) {len : Nat} {f : Nat → Int32} {v : Int32} {X : Int} (q : Nat) (hM : M a = some (.inl (θ.2.1 1, len, .inl f))) (h0 : 0 ≤ X) (h1 : X < (len : Int)) (h2 : len ≤ 2147483647) (hv : f X.toNat = v) (d : decode cc pc = .ok (.caload, 1)) (hq : pc + 1 = q) (kk : Z κ (zP θ M N) n k q lv (.int v :: rest)) : Z κ (zP θ M N) n k pc lv (.int (iI X) :: .ref a :: rest) := by
  obtain ⟨θ', p, l, e, R, s, m, args, below, meth, c, Q⟩ := κ
  obtain ⟨hx, hb, hml, hown, hts, hU, hlk, hret, hnm, hR, hQ⟩ := C
  have hκ : θ' = θ := hκ
  subst hκ
  have hK := hU.2.2.2
  subst hq; subst hv
  intro H locs ls hP hS hl
  obtain ⟨ws, w1, w2, w3⟩ := hP.ws
  obtain ⟨q0, hq0⟩ := w3.2.1 a _ hM
  obtain ⟨i1, i2⟩ := zin_of h0 h1 h2
  refine va_cald hx hb hK w1 q0 1 hq0 rfl i1 d ?_
  rw [i2]
  exact kk H locs ls hP hS hl
theorem z_cast (C : ZC κ own nm cc nL ret rm P) (hκ : κ.1 = θ) {len : Nat} {f f' : Nat → Int32} {x : Int32} {X : Int} (q : Nat) (hM : M a = some (.inl (θ.2.1 1, len, .inl f))) (h0 : 0 ≤ X) (h1 : X < (len : Int)) (h2 : len ≤ 2147483647) (hx9 : vp_nar .char x = x) (hf : upd f X.toNat x = f') (d : decode cc pc = .ok (.castore, 1)) (hq : pc + 1 = q) (kk : Z κ (zP θ (zup M a (.inl (θ.2.1 1, len, .inl f'))) N) n k q lv rest) : Z κ (zP θ M N) n k pc lv (.int x :: .int (iI X) :: .ref a :: rest) := by
  obtain ⟨θ', p, l, e, R, s, m, args, below, meth, c, Q⟩ := κ
  obtain ⟨hx, hb, hml, hown, hts, hU, hlk, hret, hnm, hR, hQ⟩ := C
  have hκ : θ' = θ := hκ
  subst hκ
  have hK := hU.2.2.2
  subst hq; subst hf
  intro H locs ls hP hS hl
  obtain ⟨ws, w1, w2, w3⟩ := hP.ws
  obtain ⟨q0, hq0⟩ := w3.2.1 a _ hM
  obtain ⟨i1, i2⟩ := zin_of h0 h1 h2
  refine va_cast hx hb hK w1 w2 hS q0 1 hq0 rfl i1 d (fun H1 locs1 g1 g2 g3 => ?_)
  rw [i2, hx9] at g1
  exact kk H1 locs1 ls (zL.set hP w2 w3 hM hq0 g1) g3 hl
theorem z_newa_c (C : ZC κ own nm cc nL ret rm P) (hκ : κ.1 = θ) {X : Int} (q len : Nat) {f : Nat → Int32} (hX : X = (len : Int)) (hlen : len ≤ 1000000) (hf : ∀ j, .int (f j) = defaultValue .char) (harr : Cond.arrayClass .char ∈ lw_all) (hce : n + 1 ≤ rm.cells) (hsl : k + len ≤ rm.slots) (d : decode cc pc = .ok (.newarray .char, 2)) (hq : pc + 2 = q) (kk : ∀ a : Nat, M a = none → N a = none → Z κ (zP θ (zup M a (.inl (θ.2.1 1, len, .inl f))) N) (n + 1) (k + len) q lv (.ref a :: rest)) : Z κ (zP θ M N) n k pc lv (.int (iI X) :: rest) := by
  obtain ⟨θ', p, l, e, R, s, m, args, below, meth, c, Q⟩ := κ
  obtain ⟨hx, hb, hml, hown, hts, hU, hlk, hret, hnm, hR, hQ⟩ := C
  have hκ : θ' = θ := hκ
  subst hκ
  have hK := hU.2.2.2
  subst hq; subst hR; subst hX
  intro H locs ls hP hS hl
  obtain ⟨ws, w1, w2, w3⟩ := hP.ws
  have hr : inR (len : Int) := ⟨by omega, by omega⟩
  refine va_newa (atype := .char) (a0 := (len, .inl f)) (ty := .char) hx hb (hts _ harr) rfl hK w1 w2 hS (fun z hz => Nat.le_trans hU.2.1 hz) (N' := len) (fun cA => ?_) ?_ ?_ ?_ hce hsl d (fun a cA H1 gK g1 g2 g3 => ?_)
  · show arrV cA len (fun j => .int (f j)) = arrV cA len (fun _ => defaultValue .char)
    congr 1
    funext j
    exact hf j
  · rw [Int32.lt_iff_toInt_lt, iI_toInt hr]
    have : (0 : Int32).toInt = 0 := by decide
    omega
  · show (iI (len : Int)).toInt.toNat = len
    rw [iI_toInt hr]; omega
  · have : componentBytes FieldType.char ≤ 8 := by decide
    have := Nat.mul_le_mul_left len this
    omega
  · have e : cA = θ'.2.1 1 := by
      have h1 := (gK.2 (zTys θ').length (cA, .char) (by rw [List.getElem?_append_right (Nat.le_refl _), Nat.sub_self]; rfl)).2
      have h2 := (hK.2 1 (θ'.2.1 1, .char) rfl).2
      exact Option.some.inj (h1.symm.trans h2)
    subst e
    obtain ⟨f1, f2, f3⟩ := zL.push hP w1 w3 g1 g2
    exact kk a f2 f3 H1 locs ls f1 g3 hl
theorem z_sald (C : ZC κ own nm cc nL ret rm P) (hκ : κ.1 = θ) {len : Nat} {f : Nat → Int32} {v : Int32} {X : Int} (q : Nat) (hM : M a = some (.inl (θ.2.1 3, len, .inl f))) (h0 : 0 ≤ X) (h1 : X < (len : Int)) (h2 : len ≤ 2147483647) (hv : f X.toNat = v) (d : decode cc pc = .ok (.saload, 1)) (hq : pc + 1 = q) (kk : Z κ (zP θ M N) n k q lv (.int v :: rest)) : Z κ (zP θ M N) n k pc lv (.int (iI X) :: .ref a :: rest) := by
  obtain ⟨θ', p, l, e, R, s, m, args, below, meth, c, Q⟩ := κ
  obtain ⟨hx, hb, hml, hown, hts, hU, hlk, hret, hnm, hR, hQ⟩ := C
  have hκ : θ' = θ := hκ
  subst hκ
  have hK := hU.2.2.2
  subst hq; subst hv
  intro H locs ls hP hS hl
  obtain ⟨ws, w1, w2, w3⟩ := hP.ws
  obtain ⟨q0, hq0⟩ := w3.2.1 a _ hM
  obtain ⟨i1, i2⟩ := zin_of h0 h1 h2
  refine va_sald hx hb hK w1 q0 3 hq0 rfl i1 d ?_
  rw [i2]
  exact kk H locs ls hP hS hl
theorem z_sast (C : ZC κ own nm cc nL ret rm P) (hκ : κ.1 = θ) {len : Nat} {f f' : Nat → Int32} {x : Int32} {X : Int} (q : Nat) (hM : M a = some (.inl (θ.2.1 3, len, .inl f))) (h0 : 0 ≤ X) (h1 : X < (len : Int)) (h2 : len ≤ 2147483647) (hx9 : vp_nar .short x = x) (hf : upd f X.toNat x = f') (d : decode cc pc = .ok (.sastore, 1)) (hq : pc + 1 = q) (kk : Z κ (zP θ (zup M a (.inl (θ.2.1 3, len, .inl f'))) N) n k q lv rest) : Z κ (zP θ M N) n k pc lv (.int x :: .int (iI X) :: .ref a :: rest) := by
  obtain ⟨θ', p, l, e, R, s, m, args, below, meth, c, Q⟩ := κ
  obtain ⟨hx, hb, hml, hown, hts, hU, hlk, hret, hnm, hR, hQ⟩ := C
  have hκ : θ' = θ := hκ
  subst hκ
  have hK := hU.2.2.2
  subst hq; subst hf
  intro H locs ls hP hS hl
  obtain ⟨ws, w1, w2, w3⟩ := hP.ws
  obtain ⟨q0, hq0⟩ := w3.2.1 a _ hM
  obtain ⟨i1, i2⟩ := zin_of h0 h1 h2
  refine va_sast hx hb hK w1 w2 hS q0 3 hq0 rfl i1 d (fun H1 locs1 g1 g2 g3 => ?_)
  rw [i2, hx9] at g1
  exact kk H1 locs1 ls (zL.set hP w2 w3 hM hq0 g1) g3 hl
theorem z_newa_s (C : ZC κ own nm cc nL ret rm P) (hκ : κ.1 = θ) {X : Int} (q len : Nat) {f : Nat → Int32} (hX : X = (len : Int)) (hlen : len ≤ 1000000) (hf : ∀ j, .int (f j) = defaultValue .short) (harr : Cond.arrayClass .short ∈ lw_all) (hce : n + 1 ≤ rm.cells) (hsl : k + len ≤ rm.slots) (d : decode cc pc = .ok (.newarray .short, 2)) (hq : pc + 2 = q) (kk : ∀ a : Nat, M a = none → N a = none → Z κ (zP θ (zup M a (.inl (θ.2.1 3, len, .inl f))) N) (n + 1) (k + len) q lv (.ref a :: rest)) : Z κ (zP θ M N) n k pc lv (.int (iI X) :: rest) := by
  obtain ⟨θ', p, l, e, R, s, m, args, below, meth, c, Q⟩ := κ
  obtain ⟨hx, hb, hml, hown, hts, hU, hlk, hret, hnm, hR, hQ⟩ := C
  have hκ : θ' = θ := hκ
  subst hκ
  have hK := hU.2.2.2
  subst hq; subst hR; subst hX
  intro H locs ls hP hS hl
  obtain ⟨ws, w1, w2, w3⟩ := hP.ws
  have hr : inR (len : Int) := ⟨by omega, by omega⟩
  refine va_newa (atype := .short) (a0 := (len, .inl f)) (ty := .short) hx hb (hts _ harr) rfl hK w1 w2 hS (fun z hz => Nat.le_trans hU.2.1 hz) (N' := len) (fun cA => ?_) ?_ ?_ ?_ hce hsl d (fun a cA H1 gK g1 g2 g3 => ?_)
  · show arrV cA len (fun j => .int (f j)) = arrV cA len (fun _ => defaultValue .short)
    congr 1
    funext j
    exact hf j
  · rw [Int32.lt_iff_toInt_lt, iI_toInt hr]
    have : (0 : Int32).toInt = 0 := by decide
    omega
  · show (iI (len : Int)).toInt.toNat = len
    rw [iI_toInt hr]; omega
  · have : componentBytes FieldType.short ≤ 8 := by decide
    have := Nat.mul_le_mul_left len this
    omega
  · have e : cA = θ'.2.1 3 := by
      have h1 := (gK.2 (zTys θ').length (cA, .short) (by rw [List.getElem?_append_right (Nat.le_refl _), Nat.sub_self]; rfl)).2
      have h2 := (hK.2 3 (θ'.2.1 3, .short) rfl).2
      exact Option.some.inj (h1.symm.trans h2)
    subst e
    obtain ⟨f1, f2, f3⟩ := zL.push hP w1 w3 g1 g2
    exact kk a f2 f3 H1 locs ls f1 g3 hl
theorem z_bald (C : ZC κ own nm cc nL ret rm P) (hκ : κ.1 = θ) {len : Nat} {f : Nat → Int32} {v : Int32} {X : Int} (q : Nat) (hM : M a = some (.inl (θ.2.1 2, len, .inl f))) (h0 : 0 ≤ X) (h1 : X < (len : Int)) (h2 : len ≤ 2147483647) (hv : f X.toNat = v) (d : decode cc pc = .ok (.baload, 1)) (hq : pc + 1 = q) (kk : Z κ (zP θ M N) n k q lv (.int v :: rest)) : Z κ (zP θ M N) n k pc lv (.int (iI X) :: .ref a :: rest) := by
  obtain ⟨θ', p, l, e, R, s, m, args, below, meth, c, Q⟩ := κ
  obtain ⟨hx, hb, hml, hown, hts, hU, hlk, hret, hnm, hR, hQ⟩ := C
  have hκ : θ' = θ := hκ
  subst hκ
  have hK := hU.2.2.2
  subst hq; subst hv
  intro H locs ls hP hS hl
  obtain ⟨ws, w1, w2, w3⟩ := hP.ws
  obtain ⟨q0, hq0⟩ := w3.2.1 a _ hM
  obtain ⟨i1, i2⟩ := zin_of h0 h1 h2
  refine va_bald hx hb hK w1 q0 2 hq0 rfl i1 d ?_
  rw [i2]
  exact kk H locs ls hP hS hl
theorem z_bast (C : ZC κ own nm cc nL ret rm P) (hκ : κ.1 = θ) {len : Nat} {f f' : Nat → Int32} {x : Int32} {X : Int} (q : Nat) (hM : M a = some (.inl (θ.2.1 2, len, .inl f))) (h0 : 0 ≤ X) (h1 : X < (len : Int)) (h2 : len ≤ 2147483647) (hx9 : vp_nar .byte x = x) (hf : upd f X.toNat x = f') (d : decode cc pc = .ok (.bastore, 1)) (hq : pc + 1 = q) (kk : Z κ (zP θ (zup M a (.inl (θ.2.1 2, len, .inl f'))) N) n k q lv rest) : Z κ (zP θ M N) n k pc lv (.int x :: .int (iI X) :: .ref a :: rest) := by
  obtain ⟨θ', p, l, e, R, s, m, args, below, meth, c, Q⟩ := κ
  obtain ⟨hx, hb, hml, hown, hts, hU, hlk, hret, hnm, hR, hQ⟩ := C
  have hκ : θ' = θ := hκ
  subst hκ
  have hK := hU.2.2.2
  subst hq; subst hf
  intro H locs ls hP hS hl
  obtain ⟨ws, w1, w2, w3⟩ := hP.ws
  obtain ⟨q0, hq0⟩ := w3.2.1 a _ hM
  obtain ⟨i1, i2⟩ := zin_of h0 h1 h2
  refine va_bast hx hb hK w1 w2 hS q0 2 hq0 rfl i1 d (fun H1 locs1 g1 g2 g3 => ?_)
  rw [i2, hx9] at g1
  exact kk H1 locs1 ls (zL.set hP w2 w3 hM hq0 g1) g3 hl
theorem z_newa_b (C : ZC κ own nm cc nL ret rm P) (hκ : κ.1 = θ) {X : Int} (q len : Nat) {f : Nat → Int32} (hX : X = (len : Int)) (hlen : len ≤ 1000000) (hf : ∀ j, .int (f j) = defaultValue .byte) (harr : Cond.arrayClass .byte ∈ lw_all) (hce : n + 1 ≤ rm.cells) (hsl : k + len ≤ rm.slots) (d : decode cc pc = .ok (.newarray .byte, 2)) (hq : pc + 2 = q) (kk : ∀ a : Nat, M a = none → N a = none → Z κ (zP θ (zup M a (.inl (θ.2.1 2, len, .inl f))) N) (n + 1) (k + len) q lv (.ref a :: rest)) : Z κ (zP θ M N) n k pc lv (.int (iI X) :: rest) := by
  obtain ⟨θ', p, l, e, R, s, m, args, below, meth, c, Q⟩ := κ
  obtain ⟨hx, hb, hml, hown, hts, hU, hlk, hret, hnm, hR, hQ⟩ := C
  have hκ : θ' = θ := hκ
  subst hκ
  have hK := hU.2.2.2
  subst hq; subst hR; subst hX
  intro H locs ls hP hS hl
  obtain ⟨ws, w1, w2, w3⟩ := hP.ws
  have hr : inR (len : Int) := ⟨by omega, by omega⟩
  refine va_newa (atype := .byte) (a0 := (len, .inl f)) (ty := .byte) hx hb (hts _ harr) rfl hK w1 w2 hS (fun z hz => Nat.le_trans hU.2.1 hz) (N' := len) (fun cA => ?_) ?_ ?_ ?_ hce hsl d (fun a cA H1 gK g1 g2 g3 => ?_)
  · show arrV cA len (fun j => .int (f j)) = arrV cA len (fun _ => defaultValue .byte)
    congr 1
    funext j
    exact hf j
  · rw [Int32.lt_iff_toInt_lt, iI_toInt hr]
    have : (0 : Int32).toInt = 0 := by decide
    omega
  · show (iI (len : Int)).toInt.toNat = len
    rw [iI_toInt hr]; omega
  · have : componentBytes FieldType.byte ≤ 8 := by decide
    have := Nat.mul_le_mul_left len this
    omega
  · have e : cA = θ'.2.1 2 := by
      have h1 := (gK.2 (zTys θ').length (cA, .byte) (by rw [List.getElem?_append_right (Nat.le_refl _), Nat.sub_self]; rfl)).2
      have h2 := (hK.2 2 (θ'.2.1 2, .byte) rfl).2
      exact Option.some.inj (h1.symm.trans h2)
    subst e
    obtain ⟨f1, f2, f3⟩ := zL.push hP w1 w3 g1 g2
    exact kk a f2 f3 H1 locs ls f1 g3 hl
theorem z_fald (C : ZC κ own nm cc nL ret rm P) (hκ : κ.1 = θ) {len : Nat} {f : Nat → UInt32} {v : UInt32} {X : Int} (q : Nat) (hM : M a = some (.inl (θ.2.1 6, len, .inr (.inr (.inl f))))) (h0 : 0 ≤ X) (h1 : X < (len : Int)) (h2 : len ≤ 2147483647) (hv : f X.toNat = v) (d : decode cc pc = .ok (.faload, 1)) (hq : pc + 1 = q) (kk : Z κ (zP θ M N) n k q lv (.float v :: rest)) : Z κ (zP θ M N) n k pc lv (.int (iI X) :: .ref a :: rest) := by
  obtain ⟨θ', p, l, e, R, s, m, args, below, meth, c, Q⟩ := κ
  obtain ⟨hx, hb, hml, hown, hts, hU, hlk, hret, hnm, hR, hQ⟩ := C
  have hκ : θ' = θ := hκ
  subst hκ
  have hK := hU.2.2.2
  subst hq; subst hv
  intro H locs ls hP hS hl
  obtain ⟨ws, w1, w2, w3⟩ := hP.ws
  obtain ⟨q0, hq0⟩ := w3.2.1 a _ hM
  obtain ⟨i1, i2⟩ := zin_of h0 h1 h2
  refine va_fald hx hb hK w1 q0 6 hq0 rfl i1 d ?_
  rw [i2]
  exact kk H locs ls hP hS hl
theorem z_fast (C : ZC κ own nm cc nL ret rm P) (hκ : κ.1 = θ) {len : Nat} {f f' : Nat → UInt32} {x : UInt32} {X : Int} (q : Nat) (hM : M a = some (.inl (θ.2.1 6, len, .inr (.inr (.inl f))))) (h0 : 0 ≤ X) (h1 : X < (len : Int)) (h2 : len ≤ 2147483647) (hf : vf_upd f X.toNat x = f') (d : decode cc pc = .ok (.fastore, 1)) (hq : pc + 1 = q) (kk : Z κ (zP θ (zup M a (.inl (θ.2.1 6, len, .inr (.inr (.inl f'))))) N) n k q lv rest) : Z κ (zP θ M N) n k pc lv (.float x :: .int (iI X) :: .ref a :: rest) := by
  obtain ⟨θ', p, l, e, R, s, m, args, below, meth, c, Q⟩ := κ
  obtain ⟨hx, hb, hml, hown, hts, hU, hlk, hret, hnm, hR, hQ⟩ := C
  have hκ : θ' = θ := hκ
  subst hκ
  have hK := hU.2.2.2
  subst hq; subst hf
  intro H locs ls hP hS hl
  obtain ⟨ws, w1, w2, w3⟩ := hP.ws
  obtain ⟨q0, hq0⟩ := w3.2.1 a _ hM
  obtain ⟨i1, i2⟩ := zin_of h0 h1 h2
  refine va_fast hx hb hK w1 w2 hS q0 6 hq0 rfl i1 d (fun H1 locs1 g1 g2 g3 => ?_)
  rw [i2] at g1
  exact kk H1 locs1 ls (zL.set hP w2 w3 hM hq0 g1) g3 hl
theorem z_newa_f (C : ZC κ own nm cc nL ret rm P) (hκ : κ.1 = θ) {X : Int} (q len : Nat) {f : Nat → UInt32} (hX : X = (len : Int)) (hlen : len ≤ 1000000) (hf : ∀ j, .float (f j) = defaultValue .float) (harr : Cond.arrayClass .float ∈ lw_all) (hce : n + 1 ≤ rm.cells) (hsl : k + len ≤ rm.slots) (d : decode cc pc = .ok (.newarray .float, 2)) (hq : pc + 2 = q) (kk : ∀ a : Nat, M a = none → N a = none → Z κ (zP θ (zup M a (.inl (θ.2.1 6, len, .inr (.inr (.inl f))))) N) (n + 1) (k + len) q lv (.ref a :: rest)) : Z κ (zP θ M N) n k pc lv (.int (iI X) :: rest) := by
  obtain ⟨θ', p, l, e, R, s, m, args, below, meth, c, Q⟩ := κ
  obtain ⟨hx, hb, hml, hown, hts, hU, hlk, hret, hnm, hR, hQ⟩ := C
  have hκ : θ' = θ := hκ
  subst hκ
  have hK := hU.2.2.2
  subst hq; subst hR; subst hX
  intro H locs ls hP hS hl
  obtain ⟨ws, w1, w2, w3⟩ := hP.ws
  have hr : inR (len : Int) := ⟨by omega, by omega⟩
  refine va_newa (atype := .float) (a0 := (len, .inr (.inr (.inl f)))) (ty := .float) hx hb (hts _ harr) rfl hK w1 w2 hS (fun z hz => Nat.le_trans hU.2.1 hz) (N' := len) (fun cA => ?_) ?_ ?_ ?_ hce hsl d (fun a cA H1 gK g1 g2 g3 => ?_)
  · show arrV cA len (fun j => .float (f j)) = arrV cA len (fun _ => defaultValue .float)
    congr 1
    funext j
    exact hf j
  · rw [Int32.lt_iff_toInt_lt, iI_toInt hr]
    have : (0 : Int32).toInt = 0 := by decide
    omega
  · show (iI (len : Int)).toInt.toNat = len
    rw [iI_toInt hr]; omega
  · have : componentBytes FieldType.float ≤ 8 := by decide
    have := Nat.mul_le_mul_left len this
    omega
  · have e : cA = θ'.2.1 6 := by
      have h1 := (gK.2 (zTys θ').length (cA, .float) (by rw [List.getElem?_append_right (Nat.le_refl _), Nat.sub_self]; rfl)).2
      have h2 := (hK.2 6 (θ'.2.1 6, .float) rfl).2
      exact Option.some.inj (h1.symm.trans h2)
    subst e
    obtain ⟨f1, f2, f3⟩ := zL.push hP w1 w3 g1 g2
    exact kk a f2 f3 H1 locs ls f1 g3 hl
theorem z_dald (C : ZC κ own nm cc nL ret rm P) (hκ : κ.1 = θ) {len : Nat} {f : Nat → UInt64} {v : UInt64} {X : Int} (q : Nat) (hM : M a = some (.inl (θ.2.1 7, len, .inr (.inr (.inr (.inl f)))))) (h0 : 0 ≤ X) (h1 : X < (len : Int)) (h2 : len ≤ 2147483647) (hv : f X.toNat = v) (d : decode cc pc = .ok (.daload, 1)) (hq : pc + 1 = q) (kk : Z κ (zP θ M N) n k q lv (.double v :: rest)) : Z κ (zP θ M N) n k pc lv (.int (iI X) :: .ref a :: rest) := by
  obtain ⟨θ', p, l, e, R, s, m, args, below, meth, c, Q⟩ := κ
  obtain ⟨hx, hb, hml, hown, hts, hU, hlk, hret, hnm, hR, hQ⟩ := C
  have hκ : θ' = θ := hκ
  subst hκ
  have hK := hU.2.2.2
  subst hq; subst hv
  intro H locs ls hP hS hl
  obtain ⟨ws, w1, w2, w3⟩ := hP.ws
  obtain ⟨q0, hq0⟩ := w3.2.1 a _ hM
  obtain ⟨i1, i2⟩ := zin_of h0 h1 h2
  refine va_dald hx hb hK w1 q0 7 hq0 rfl i1 d ?_
  rw [i2]
  exact kk H locs ls hP hS hl
theorem z_dast (C : ZC κ own nm cc nL ret rm P) (hκ : κ.1 = θ) {len : Nat} {f f' : Nat → UInt64} {x : UInt64} {X : Int} (q : Nat) (hM : M a = some (.inl (θ.2.1 7, len, .inr (.inr (.inr (.inl f)))))) (h0 : 0 ≤ X) (h1 : X < (len : Int)) (h2 : len ≤ 2147483647) (hf : vf_upd f X.toNat x = f') (d : decode cc pc = .ok (.dastore, 1)) (hq : pc + 1 = q) (kk : Z κ (zP θ (zup M a (.inl (θ.2.1 7, len, .inr (.inr (.inr (.inl f')))))) N) n k q lv rest) : Z κ (zP θ M N) n k pc lv (.double x :: .int (iI X) :: .ref a :: rest) := by
  obtain ⟨θ', p, l, e, R, s, m, args, below, meth, c, Q⟩ := κ
  obtain ⟨hx, hb, hml, hown, hts, hU, hlk, hret, hnm, hR, hQ⟩ := C
  have hκ : θ' = θ := hκ
  subst hκ
  have hK := hU.2.2.2
  subst hq; subst hf
  intro H locs ls hP hS hl
  obtain ⟨ws, w1, w2, w3⟩ := hP.ws
  obtain ⟨q0, hq0⟩ := w3.2.1 a _ hM
  obtain ⟨i1, i2⟩ := zin_of h0 h1 h2
  refine va_dast hx hb hK w1 w2 hS q0 7 hq0 rfl i1 d (fun H1 locs1 g1 g2 g3 => ?_)
  rw [i2] at g1
  exact kk H1 locs1 ls (zL.set hP w2 w3 hM hq0 g1) g3 hl
theorem z_newa_d (C : ZC κ own nm cc nL ret rm P) (hκ : κ.1 = θ) {X : Int} (q len : Nat) {f : Nat → UInt64} (hX : X = (len : Int)) (hlen : len ≤ 1000000) (hf : ∀ j, .double (f j) = defaultValue .double) (harr : Cond.arrayClass .double ∈ lw_all) (hce : n + 1 ≤ rm.cells) (hsl : k + len ≤ rm.slots) (d : decode cc pc = .ok (.newarray .double, 2)) (hq : pc + 2 = q) (kk : ∀ a : Nat, M a = none → N a = none → Z κ (zP θ (zup M a (.inl (θ.2.1 7, len, .inr (.inr (.inr (.inl f)))))) N) (n + 1) (k + len) q lv (.ref a :: rest)) : Z κ (zP θ M N) n k pc lv (.int (iI X) :: rest) := by
  obtain ⟨θ', p, l, e, R, s, m, args, below, meth, c, Q⟩ := κ
  obtain ⟨hx, hb, hml, hown, hts, hU, hlk, hret, hnm, hR, hQ⟩ := C
  have hκ : θ' = θ := hκ
  subst hκ
  have hK := hU.2.2.2
  subst hq; subst hR; subst hX
  intro H locs ls hP hS hl
  obtain ⟨ws, w1, w2, w3⟩ := hP.ws
  have hr : inR (len : Int) := ⟨by omega, by omega⟩
  refine va_newa (atype := .double) (a0 := (len, .inr (.inr (.inr (.inl f))))) (ty := .double) hx hb (hts _ harr) rfl hK w1 w2 hS (fun z hz => Nat.le_trans hU.2.1 hz) (N' := len) (fun cA => ?_) ?_ ?_ ?_ hce hsl d (fun a cA H1 gK g1 g2 g3 => ?_)
  · show arrV cA len (fun j => .double (f j)) = arrV cA len (fun _ => defaultValue .double)
    congr 1
    funext j
    exact hf j
  · rw [Int32.lt_iff_toInt_lt, iI_toInt hr]
    have : (0 : Int32).toInt = 0 := by decide
    omega
  · show (iI (len : Int)).toInt.toNat = len
    rw [iI_toInt hr]; omega
  · have : componentBytes FieldType.double ≤ 8 := by decide
    have := Nat.mul_le_mul_left len this
    omega
  · have e : cA = θ'.2.1 7 := by
      have h1 := (gK.2 (zTys θ').length (cA, .double) (by rw [List.getElem?_append_right (Nat.le_refl _), Nat.sub_self]; rfl)).2
      have h2 := (hK.2 7 (θ'.2.1 7, .double) rfl).2
      exact Option.some.inj (h1.symm.trans h2)
    subst e
    obtain ⟨f1, f2, f3⟩ := zL.push hP w1 w3 g1 g2
    exact kk a f2 f3 H1 locs ls f1 g3 hl
theorem z_alen (C : ZC κ own nm cc nL ret rm P) (hκ : κ.1 = θ) {x : vp_A} {cA : ClassId} {ty : FieldType} (q t0 : Nat) (hM : M a = some (.inl (cA, x))) (ht : (zTys θ)[t0]? = some (cA, ty)) (d : decode cc pc = .ok (.arraylength, 1)) (hq : pc + 1 = q) (kk : Z κ (zP θ M N) n k q lv (.int (iI (x.1 : Int)) :: rest)) : Z κ (zP θ M N) n k pc lv (.ref a :: rest) := by
  obtain ⟨θ', p, l, e, R, s, m, args, below, meth, c, Q⟩ := κ
  obtain ⟨hx, hb, hml, hown, hts, hU, hlk, hret, hnm, hR, hQ⟩ := C
  have hκ : θ' = θ := hκ
  subst hκ
  have hK := hU.2.2.2
  subst hq
  intro H locs ls hP hS hl
  obtain ⟨ws, w1, w2, w3⟩ := hP.ws
  obtain ⟨q0, hq0⟩ := w3.2.1 a _ hM
  exact va_alen hx hb hK w1 q0 t0 hq0 ht (Int32.ofInt_eq_ofNat (n := x.1)).symm d (kk H locs ls hP hS hl)
theorem z_qald (C : ZC κ own nm cc nL ret rm P) (hκ : κ.1 = θ) {cA : ClassId} {E : String} {len : Nat} {f : Nat → Option Nat} {X : Int} {v : Value} (q t0 : Nat) (hM : M a = some (.inl (cA, len, .inr (.inr (.inr (.inr f)))))) (ht : (zTys θ)[t0]? = some (cA, .object E)) (h0 : 0 ≤ X) (h1 : X < (len : Int)) (h2 : len ≤ 2147483647) (hv : va_rf (f X.toNat) = v) (d : decode cc pc = .ok (.aaload, 1)) (hq : pc + 1 = q) (kk : Z κ (zP θ M N) n k q lv (v :: rest)) : Z κ (zP θ M N) n k pc lv (.int (iI X) :: .ref a :: rest) := by
  obtain ⟨θ', p, l, e, R, s, m, args, below, meth, c, Q⟩ := κ
  obtain ⟨hx, hb, hml, hown, hts, hU, hlk, hret, hnm, hR, hQ⟩ := C
  have hκ : θ' = θ := hκ
  subst hκ
  have hK := hU.2.2.2
  subst hq; subst hv
  intro H locs ls hP hS hl
  obtain ⟨ws, w1, w2, w3⟩ := hP.ws
  obtain ⟨q0, hq0⟩ := w3.2.1 a _ hM
  obtain ⟨i1, i2⟩ := zin_of h0 h1 h2
  refine va_aldq hx hb hK w1 q0 t0 hq0 ht i1 d ?_
  rw [i2]
  exact kk H locs ls hP hS hl
end ZHeap
theorem zk_X0 : zcls 0 RX0 TX0 14 tyX0 := ⟨rfl, in_X0, tyX0_ok, fun a ha b hb h => Or.inl (nmX0 a ha b hb h)⟩
theorem zk_X1 : zcls 1 RX1 TX1 1 tyX1 := ⟨rfl, in_X1, tyX1_ok, fun a ha b hb h => Or.inl (nmX1 a ha b hb h)⟩
theorem zk_X3 : zcls 3 RX3 TX3 8 tyX3 := ⟨rfl, in_X3, tyX3_ok, fun a ha b hb h => Or.inl (nmX3 a ha b hb h)⟩
theorem zk_X4 : zcls 4 RX4 TX4 8 tyX4 := ⟨rfl, in_X4, tyX4_ok, fun a ha b hb h => Or.inl (nmX4 a ha b hb h)⟩
theorem zk_X5 : zcls 5 RX5 TX5 10 tyX5 := ⟨rfl, in_X5, tyX5_ok, fun a ha b hb h => Or.inl (nmX5 a ha b hb h)⟩
theorem zk_X6 : zcls 6 RX6 TX6 3 tyX6 := ⟨rfl, in_X6, tyX6_ok, fun a ha b hb h => Or.inl (nmX6 a ha b hb h)⟩
theorem zk_X7 : zcls 7 RX7 TX7 52 tyX7 := ⟨rfl, in_X7, tyX7_ok, fun a ha b hb h => Or.inl (nmX7 a ha b hb h)⟩
theorem zk_X8 : zcls 8 RX8 TX8 10 tyX8 := ⟨rfl, in_X8, tyX8_ok, fun a ha b hb h => Or.inl (nmX8 a ha b hb h)⟩
theorem zk_X9 : zcls 9 RX9 TX9 12 tyX9 := ⟨rfl, in_X9, tyX9_ok, fun a ha b hb h => Or.inl (nmX9 a ha b hb h)⟩
theorem nmX11 : ∀ a, a < 3 → ∀ b, b < 3 → a ≠ b → zdst TX11 a b := by decide +kernel
theorem zk_X11 : zcls 11 RX11 TX11 3 tyX11 := ⟨rfl, in_X11, tyX11_ok, nmX11⟩
theorem nmX12 : ∀ a, a < 4 → ∀ b, b < 4 → a ≠ b → zdst TX12 a b := by decide +kernel
theorem zk_X12 : zcls 12 RX12 TX12 4 tyX12 := ⟨rfl, in_X12, tyX12_ok, nmX12⟩
theorem nmX13 : ∀ a, a < 4 → ∀ b, b < 4 → a ≠ b → zdst TX13 a b := by decide +kernel
theorem zk_X13 : zcls 13 RX13 TX13 4 tyX13 := ⟨rfl, in_X13, tyX13_ok, nmX13⟩
theorem nmX14 : ∀ a, a < 6 → ∀ b, b < 6 → a ≠ b → zdst TX14 a b := by decide +kernel
theorem zk_X14 : zcls 14 RX14 TX14 6 tyX14 := ⟨rfl, in_X14, tyX14_ok, nmX14⟩
theorem nmX15 : ∀ a, a < 4 → ∀ b, b < 4 → a ≠ b → zdst TX15 a b := by decide +kernel
theorem zk_X15 : zcls 15 RX15 TX15 4 tyX15 := ⟨rfl, in_X15, tyX15_ok, nmX15⟩
theorem nmX16 : ∀ a, a < 4 → ∀ b, b < 4 → a ≠ b → zdst TX16 a b := by decide +kernel
theorem zk_X16 : zcls 16 RX16 TX16 4 tyX16 := ⟨rfl, in_X16, tyX16_ok, nmX16⟩
theorem nmX17 : ∀ a, a < 6 → ∀ b, b < 6 → a ≠ b → zdst TX17 a b := by decide +kernel
theorem zk_X17 : zcls 17 RX17 TX17 6 tyX17 := ⟨rfl, in_X17, tyX17_ok, nmX17⟩
theorem nmX18 : ∀ a, a < 5 → ∀ b, b < 5 → a ≠ b → zdst TX18 a b := by decide +kernel
theorem zk_X18 : zcls 18 RX18 TX18 5 tyX18 := ⟨rfl, in_X18, tyX18_ok, nmX18⟩
theorem nmX20 : ∀ a, a < 6 → ∀ b, b < 6 → a ≠ b → zdst TX20 a b := by decide +kernel
theorem zk_X20 : zcls 20 RX20 TX20 6 tyX20 := ⟨rfl, in_X20, tyX20_ok, nmX20⟩
theorem nmX21 : ∀ a, a < 6 → ∀ b, b < 6 → a ≠ b → zdst TX21 a b := by decide +kernel
theorem zk_X21 : zcls 21 RX21 TX21 6 tyX21 := ⟨rfl, in_X21, tyX21_ok, nmX21⟩
theorem nmX22 : ∀ a, a < 5 → ∀ b, b < 5 → a ≠ b → zdst TX22 a b := by decide +kernel
theorem zk_X22 : zcls 22 RX22 TX22 5 tyX22 := ⟨rfl, in_X22, tyX22_ok, nmX22⟩
theorem zk_X24 : zcls 24 RX24 TX24 4 tyX24 := ⟨rfl, in_X24, tyX24_ok, fun a ha b hb h => Or.inl (nmX24 a ha b hb h)⟩
theorem zk_X25 : zcls 25 RX25 TX25 7 tyX25 := ⟨rfl, in_X25, tyX25_ok, fun a ha b hb h => Or.inl (nmX25 a ha b hb h)⟩
theorem zk_X26 : zcls 26 RX26 TX26 4 tyX26 := ⟨rfl, in_X26, tyX26_ok, fun a ha b hb h => Or.inl (nmX26 a ha b hb h)⟩
theorem nmX27 : ∀ a, a < 5 → ∀ b, b < 5 → a ≠ b → zdst TX27 a b := by decide +kernel
theorem zk_X27 : zcls 27 RX27 TX27 5 tyX27 := ⟨rfl, in_X27, tyX27_ok, nmX27⟩
theorem znX0_init : zNm yX0_init RX0 0 := by decide +kernel
theorem znX0_about : zNm yX0_about RX0 2 := by decide +kernel
theorem znX0_act : zNm yX0_act RX0 6 := by decide +kernel
theorem znX0_add_2 : zNm yX0_add_2 RX0 1 := by decide +kernel
theorem znX0_add : zNm yX0_add RX0 1 := by decide +kernel
theorem znX0_ancestor : zNm yX0_ancestor RX0 2 := by decide +kernel
theorem znX0_bits : zNm yX0_bits RX0 1 := by decide +kernel
theorem znX0_body : zNm yX0_body RX0 4 := by decide +kernel
theorem znX0_bodyOf : zNm yX0_bodyOf RX0 4 := by decide +kernel
theorem znX0_call_2 : zNm yX0_call_2 RX0 4 := by decide +kernel
theorem znX0_call : zNm yX0_call RX0 4 := by decide +kernel
theorem znX0_caller : zNm yX0_caller RX0 1 := by decide +kernel
theorem znX0_canBe : zNm yX0_canBe RX0 2 := by decide +kernel
theorem znX0_cause_2 : zNm yX0_cause_2 RX0 1 := by decide +kernel
theorem znX0_cause : zNm yX0_cause RX0 3 := by decide +kernel
theorem znX0_climb : zNm yX0_climb RX0 0 := by decide +kernel
theorem znX0_copy_2 : zNm yX0_copy_2 RX0 5 := by decide +kernel
theorem znX0_copy : zNm yX0_copy RX0 5 := by decide +kernel
theorem znX0_count : zNm yX0_count RX0 1 := by decide +kernel
theorem znX0_declared : zNm yX0_declared RX0 2 := by decide +kernel
theorem znX0_does : zNm yX0_does RX0 6 := by decide +kernel
theorem znX0_face : zNm yX0_face RX0 1 := by decide +kernel
theorem znX0_field : zNm yX0_field RX0 4 := by decide +kernel
theorem znX0_findField : zNm yX0_findField RX0 3 := by decide +kernel
theorem znX0_findMethod : zNm yX0_findMethod RX0 3 := by decide +kernel
theorem znX0_get_2 : zNm yX0_get_2 RX0 4 := by decide +kernel
theorem znX0_get : zNm yX0_get RX0 4 := by decide +kernel
theorem znX0_goesInto : zNm yX0_goesInto RX0 2 := by decide +kernel
theorem znX0_implement : zNm yX0_implement RX0 2 := by decide +kernel
theorem znX0_inForce : zNm yX0_inForce RX0 2 := by decide +kernel
theorem znX0_inForce_2 : zNm yX0_inForce_2 RX0 2 := by decide +kernel
theorem znX0_is : zNm yX0_is RX0 2 := by decide +kernel
theorem znX0_isClosed : zNm yX0_isClosed RX0 1 := by decide +kernel
theorem znX0_isField : zNm yX0_isField RX0 1 := by decide +kernel
theorem znX0_isFit : zNm yX0_isFit RX0 2 := by decide +kernel
theorem znX0_isIn : zNm yX0_isIn RX0 3 := by decide +kernel
theorem znX0_isMember : zNm yX0_isMember RX0 1 := by decide +kernel
theorem znX0_isMethod : zNm yX0_isMethod RX0 1 := by decide +kernel
theorem znX0_isSlot : zNm yX0_isSlot RX0 1 := by decide +kernel
theorem znX0_isThing : zNm yX0_isThing RX0 1 := by decide +kernel
theorem znX0_isType : zNm yX0_isType RX0 1 := by decide +kernel
theorem znX0_item_2 : zNm yX0_item_2 RX0 4 := by decide +kernel
theorem znX0_item : zNm yX0_item RX0 4 := by decide +kernel
theorem znX0_itemsOf : zNm yX0_itemsOf RX0 1 := by decide +kernel
theorem znX0_kind : zNm yX0_kind RX0 1 := by decide +kernel
theorem znX0_letter : zNm yX0_letter RX0 2 := by decide +kernel
theorem znX0_load : zNm yX0_load RX0 4 := by decide +kernel
theorem znX0_may : zNm yX0_may RX0 2 := by decide +kernel
theorem znX0_mayBe : zNm yX0_mayBe RX0 2 := by decide +kernel
theorem znX0_meet : zNm yX0_meet RX0 2 := by decide +kernel
theorem znX0_member : zNm yX0_member RX0 2 := by decide +kernel
theorem znX0_method : zNm yX0_method RX0 8 := by decide +kernel
theorem znX0_need : zNm yX0_need RX0 2 := by decide +kernel
theorem znX0_object : zNm yX0_object RX0 1 := by decide +kernel
theorem znX0_open : zNm yX0_open RX0 2 := by decide +kernel
theorem znX0_overrides : zNm yX0_overrides RX0 2 := by decide +kernel
theorem znX0_ownField : zNm yX0_ownField RX0 2 := by decide +kernel
theorem znX0_ownMethod : zNm yX0_ownMethod RX0 2 := by decide +kernel
theorem znX0_put_2 : zNm yX0_put_2 RX0 3 := by decide +kernel
theorem znX0_put : zNm yX0_put RX0 3 := by decide +kernel
theorem znX0_references : zNm yX0_references RX0 1 := by decide +kernel
theorem znX0_row : zNm yX0_row RX0 2 := by decide +kernel
theorem znX0_rowOf : zNm yX0_rowOf RX0 2 := by decide +kernel
theorem znX0_rows : zNm yX0_rows RX0 1 := by decide +kernel
theorem znX0_run : zNm yX0_run RX0 6 := by decide +kernel
theorem znX0_save : zNm yX0_save RX0 3 := by decide +kernel
theorem znX0_set_2 : zNm yX0_set_2 RX0 3 := by decide +kernel
theorem znX0_set : zNm yX0_set RX0 3 := by decide +kernel
theorem znX0_slot : zNm yX0_slot RX0 3 := by decide +kernel
theorem znX0_store_2 : zNm yX0_store_2 RX0 3 := by decide +kernel
theorem znX0_store : zNm yX0_store RX0 3 := by decide +kernel
theorem znX0_thing : zNm yX0_thing RX0 2 := by decide +kernel
theorem znX0_thingAt : zNm yX0_thingAt RX0 1 := by decide +kernel
theorem znX0_told : zNm yX0_told RX0 1 := by decide +kernel
theorem znX0_type : zNm yX0_type RX0 3 := by decide +kernel
theorem znX18_init : zNm yX18_init RX18 3 := by decide +kernel
theorem znX18_isItself : zNm yX18_isItself RX18 0 := by decide +kernel
theorem znX18_isWell : zNm yX18_isWell RX18 0 := by decide +kernel
theorem znX18_kind : zNm yX18_kind RX18 0 := by decide +kernel
theorem znX17_init : zNm yX17_init RX17 4 := by decide +kernel
theorem znX17_isEndless : zNm yX17_isEndless RX17 1 := by decide +kernel
theorem znX17_isNumber : zNm yX17_isNumber RX17 1 := by decide +kernel
theorem znX17_isWell : zNm yX17_isWell RX17 0 := by decide +kernel
theorem znX17_kind : zNm yX17_kind RX17 0 := by decide +kernel
theorem znX17_type : zNm yX17_type RX17 0 := by decide +kernel
theorem znX17_work : zNm yX17_work RX17 1 := by decide +kernel
theorem znX10_init : zNm yX10_init RX10 2 := by decide +kernel
theorem znX10_gives : zNm yX10_gives RX10 2 := by decide +kernel
theorem znX10_isFit : zNm yX10_isFit RX10 0 := by decide +kernel
theorem znX10_isNear : zNm yX10_isNear RX10 1 := by decide +kernel
theorem znX10_isWell : zNm yX10_isWell RX10 0 := by decide +kernel
theorem znX10_kind : zNm yX10_kind RX10 0 := by decide +kernel
theorem znX10_param : zNm yX10_param RX10 1 := by decide +kernel
theorem znX10_type : zNm yX10_type RX10 0 := by decide +kernel
theorem znX10_work : zNm yX10_work RX10 1 := by decide +kernel
theorem znX16_init : zNm yX16_init RX16 3 := by decide +kernel
theorem znX16_isItself : zNm yX16_isItself RX16 0 := by decide +kernel
theorem znX16_isWell : zNm yX16_isWell RX16 0 := by decide +kernel
theorem znX16_kind : zNm yX16_kind RX16 0 := by decide +kernel
theorem znX16_type : zNm yX16_type RX16 0 := by decide +kernel
theorem znX16_work : zNm yX16_work RX16 1 := by decide +kernel
theorem znX6_init : zNm yX6_init RX6 0 := by decide +kernel
theorem znX6_become : zNm yX6_become RX6 1 := by decide +kernel
theorem znX6_clear : zNm yX6_clear RX6 1 := by decide +kernel
theorem znX6_real : zNm yX6_real RX6 0 := by decide +kernel
theorem znX6_single : zNm yX6_single RX6 0 := by decide +kernel
theorem znX6_widen : zNm yX6_widen RX6 1 := by decide +kernel
theorem znX6_widenTo : zNm yX6_widenTo RX6 1 := by decide +kernel
theorem znX4_init : zNm yX4_init RX4 2 := by decide +kernel
theorem znX4_climb : zNm yX4_climb RX4 1 := by decide +kernel
theorem znX4_declares : zNm yX4_declares RX4 0 := by decide +kernel
theorem znX4_row : zNm yX4_row RX4 1 := by decide +kernel
theorem znX4_what : zNm yX4_what RX4 0 := by decide +kernel
theorem znX15_init : zNm yX15_init RX15 3 := by decide +kernel
theorem znX15_isWell : zNm yX15_isWell RX15 0 := by decide +kernel
theorem znX15_kind : zNm yX15_kind RX15 0 := by decide +kernel
theorem znX15_work : zNm yX15_work RX15 1 := by decide +kernel
theorem znX22_init : zNm yX22_init RX22 3 := by decide +kernel
theorem znX22_isFaceFirst : zNm yX22_isFaceFirst RX22 0 := by decide +kernel
theorem znX22_own : zNm yX22_own RX22 1 := by decide +kernel
theorem znX26_init : zNm yX26_init RX26 3 := by decide +kernel
theorem znX21_init : zNm yX21_init RX21 4 := by decide +kernel
theorem znX21_isWell : zNm yX21_isWell RX21 0 := by decide +kernel
theorem znX21_kind : zNm yX21_kind RX21 0 := by decide +kernel
theorem znX21_type : zNm yX21_type RX21 0 := by decide +kernel
theorem znX21_work : zNm yX21_work RX21 1 := by decide +kernel
theorem znX27_init : zNm yX27_init RX27 3 := by decide +kernel
theorem znX9_init : zNm yX9_init RX9 6 := by decide +kernel
theorem znX9_has : zNm yX9_has RX9 1 := by decide +kernel
theorem znX9_isLike : zNm yX9_isLike RX9 1 := by decide +kernel
theorem znX9_isMet : zNm yX9_isMet RX9 0 := by decide +kernel
theorem znX9_isPrivate : zNm yX9_isPrivate RX9 0 := by decide +kernel
theorem znX9_number : zNm yX9_number RX9 0 := by decide +kernel
theorem znX9_overrides : zNm yX9_overrides RX9 1 := by decide +kernel
theorem znX9_who : zNm yX9_who RX9 0 := by decide +kernel
theorem znX20_init : zNm yX20_init RX20 4 := by decide +kernel
theorem znX20_own : zNm yX20_own RX20 1 := by decide +kernel
theorem znX28_isBehind : zNm yX28_isBehind RX28 1 := by decide +kernel
theorem znX24_init : zNm yX24_init RX24 2 := by decide +kernel
theorem znX12_init : zNm yX12_init RX12 3 := by decide +kernel
theorem znX12_isWell : zNm yX12_isWell RX12 0 := by decide +kernel
theorem znX12_kind : zNm yX12_kind RX12 0 := by decide +kernel
theorem znX12_type : zNm yX12_type RX12 0 := by decide +kernel
theorem znX12_work : zNm yX12_work RX12 1 := by decide +kernel
theorem znX5_init : zNm yX5_init RX5 4 := by decide +kernel
theorem znX5_climb : zNm yX5_climb RX5 1 := by decide +kernel
theorem znX5_declares : zNm yX5_declares RX5 0 := by decide +kernel
theorem znX5_isClass : zNm yX5_isClass RX5 0 := by decide +kernel
theorem znX5_parent : zNm yX5_parent RX5 0 := by decide +kernel
theorem znX5_row : zNm yX5_row RX5 1 := by decide +kernel
theorem znX5_what : zNm yX5_what RX5 0 := by decide +kernel
theorem znX11_init : zNm yX11_init RX11 2 := by decide +kernel
theorem znX3_init : zNm yX3_init RX3 1 := by decide +kernel
theorem znX3_is : zNm yX3_is RX3 1 := by decide +kernel
theorem znX3_isReference : zNm yX3_isReference RX3 0 := by decide +kernel
theorem znX3_row : zNm yX3_row RX3 1 := by decide +kernel
theorem znX3_what : zNm yX3_what RX3 0 := by decide +kernel
theorem znX13_init : zNm yX13_init RX13 3 := by decide +kernel
theorem znX13_isWell : zNm yX13_isWell RX13 0 := by decide +kernel
theorem znX13_kind : zNm yX13_kind RX13 0 := by decide +kernel
theorem znX13_place : zNm yX13_place RX13 1 := by decide +kernel
theorem znX13_type : zNm yX13_type RX13 0 := by decide +kernel
theorem znX13_work : zNm yX13_work RX13 1 := by decide +kernel
theorem znX25_init : zNm yX25_init RX25 1 := by decide +kernel
theorem znX8_init : zNm yX8_init RX8 3 := by decide +kernel
theorem znX8_climb : zNm yX8_climb RX8 1 := by decide +kernel
theorem znX8_is : zNm yX8_is RX8 1 := by decide +kernel
theorem znX8_of : zNm yX8_of RX8 0 := by decide +kernel
theorem znX8_parent : zNm yX8_parent RX8 0 := by decide +kernel
theorem znX8_row : zNm yX8_row RX8 1 := by decide +kernel
theorem znX8_what : zNm yX8_what RX8 0 := by decide +kernel
theorem znX19_init : zNm yX19_init RX19 2 := by decide +kernel
theorem znX19_from : zNm yX19_from RX19 1 := by decide +kernel
theorem znX19_inFaces : zNm yX19_inFaces RX19 1 := by decide +kernel
theorem znX19_inParent : zNm yX19_inParent RX19 1 := by decide +kernel
theorem znX19_isFaceFirst : zNm yX19_isFaceFirst RX19 0 := by decide +kernel
theorem znX1_init : zNm yX1_init RX1 0 := by decide +kernel
theorem znX23_init : zNm yX23_init RX23 2 := by decide +kernel
theorem znX23_number : zNm yX23_number RX23 0 := by decide +kernel
theorem znX2_init : zNm yX2_init RX2 2 := by decide +kernel
theorem znX2_add : zNm yX2_add RX2 1 := by decide +kernel
theorem znX2_addAll : zNm yX2_addAll RX2 2 := by decide +kernel
theorem znX2_clear : zNm yX2_clear RX2 0 := by decide +kernel
theorem znX2_climb : zNm yX2_climb RX2 1 := by decide +kernel
theorem znX2_declares : zNm yX2_declares RX2 0 := by decide +kernel
theorem znX2_is : zNm yX2_is RX2 1 := by decide +kernel
theorem znX2_isClass : zNm yX2_isClass RX2 0 := by decide +kernel
theorem znX2_isReference : zNm yX2_isReference RX2 0 := by decide +kernel
theorem znX2_number : zNm yX2_number RX2 0 := by decide +kernel
theorem znX2_of : zNm yX2_of RX2 0 := by decide +kernel
theorem znX2_parent : zNm yX2_parent RX2 0 := by decide +kernel
theorem znX2_row : zNm yX2_row RX2 1 := by decide +kernel
theorem znX14_init : zNm yX14_init RX14 4 := by decide +kernel
theorem znX14_isWell : zNm yX14_isWell RX14 0 := by decide +kernel
theorem znX14_kind : zNm yX14_kind RX14 0 := by decide +kernel
theorem znX14_type : zNm yX14_type RX14 0 := by decide +kernel
theorem znX14_work : zNm yX14_work RX14 1 := by decide +kernel
theorem znX7_init : zNm yX7_init RX7 0 := by decide +kernel
theorem znX7_about : zNm yX7_about RX7 2 := by decide +kernel
theorem znX7_adds : zNm yX7_adds RX7 5 := by decide +kernel
theorem znX7_against : zNm yX7_against RX7 2 := by decide +kernel
theorem znX7_againstItem : zNm yX7_againstItem RX7 3 := by decide +kernel
theorem znX7_ancestor : zNm yX7_ancestor RX7 2 := by decide +kernel
theorem znX7_areLike : zNm yX7_areLike RX7 2 := by decide +kernel
theorem znX7_beginAt : zNm yX7_beginAt RX7 1 := by decide +kernel
theorem znX7_begins : zNm yX7_begins RX7 2 := by decide +kernel
theorem znX7_bits : zNm yX7_bits RX7 1 := by decide +kernel
theorem znX7_bitsOf : zNm yX7_bitsOf RX7 3 := by decide +kernel
theorem znX7_body : zNm yX7_body RX7 4 := by decide +kernel
theorem znX7_call : zNm yX7_call RX7 4 := by decide +kernel
theorem znX7_caller : zNm yX7_caller RX7 1 := by decide +kernel
theorem znX7_cause : zNm yX7_cause RX7 1 := by decide +kernel
theorem znX7_closeAll : zNm yX7_closeAll RX7 0 := by decide +kernel
theorem znX7_comesTo : zNm yX7_comesTo RX7 2 := by decide +kernel
theorem znX7_copy : zNm yX7_copy RX7 5 := by decide +kernel
theorem znX7_count : zNm yX7_count RX7 1 := by decide +kernel
theorem znX7_declare : zNm yX7_declare RX7 5 := by decide +kernel
theorem znX7_declared : zNm yX7_declared RX7 2 := by decide +kernel
theorem znX7_declares : zNm yX7_declares RX7 1 := by decide +kernel
theorem znX7_doubleBits : zNm yX7_doubleBits RX7 1 := by decide +kernel
theorem znX7_doubleOf : zNm yX7_doubleOf RX7 1 := by decide +kernel
theorem znX7_face : zNm yX7_face RX7 1 := by decide +kernel
theorem znX7_fails : zNm yX7_fails RX7 3 := by decide +kernel
theorem znX7_field : zNm yX7_field RX7 4 := by decide +kernel
theorem znX7_fieldValue : zNm yX7_fieldValue RX7 2 := by decide +kernel
theorem znX7_findField : zNm yX7_findField RX7 3 := by decide +kernel
theorem znX7_findMethod : zNm yX7_findMethod RX7 3 := by decide +kernel
theorem znX7_fit : zNm yX7_fit RX7 2 := by decide +kernel
theorem znX7_floatBits : zNm yX7_floatBits RX7 1 := by decide +kernel
theorem znX7_floatOf : zNm yX7_floatOf RX7 1 := by decide +kernel
theorem znX7_force : zNm yX7_force RX7 2 := by decide +kernel
theorem znX7_found : zNm yX7_found RX7 3 := by decide +kernel
theorem znX7_get : zNm yX7_get RX7 4 := by decide +kernel
theorem znX7_goes : zNm yX7_goes RX7 1 := by decide +kernel
theorem znX7_goesInto : zNm yX7_goesInto RX7 2 := by decide +kernel
theorem znX7_has : zNm yX7_has RX7 2 := by decide +kernel
theorem znX7_implement : zNm yX7_implement RX7 2 := by decide +kernel
theorem znX7_in : zNm yX7_in RX7 3 := by decide +kernel
theorem znX7_inForce : zNm yX7_inForce RX7 2 := by decide +kernel
theorem znX7_is : zNm yX7_is RX7 2 := by decide +kernel
theorem znX7_isBelow : zNm yX7_isBelow RX7 1 := by decide +kernel
theorem znX7_isClass : zNm yX7_isClass RX7 1 := by decide +kernel
theorem znX7_isClosed : zNm yX7_isClosed RX7 1 := by decide +kernel
theorem znX7_isFieldAt : zNm yX7_isFieldAt RX7 1 := by decide +kernel
theorem znX7_isListed : zNm yX7_isListed RX7 2 := by decide +kernel
theorem znX7_isMember : zNm yX7_isMember RX7 1 := by decide +kernel
theorem znX7_isMethod : zNm yX7_isMethod RX7 1 := by decide +kernel
theorem znX7_isNumber : zNm yX7_isNumber RX7 2 := by decide +kernel
theorem znX7_isOne : zNm yX7_isOne RX7 2 := by decide +kernel
theorem znX7_isParam : zNm yX7_isParam RX7 2 := by decide +kernel
theorem znX7_isPrivate : zNm yX7_isPrivate RX7 1 := by decide +kernel
theorem znX7_isReference : zNm yX7_isReference RX7 1 := by decide +kernel
theorem znX7_isSlot : zNm yX7_isSlot RX7 1 := by decide +kernel
theorem znX7_isThing : zNm yX7_isThing RX7 1 := by decide +kernel
theorem znX7_isThingOrNone : zNm yX7_isThingOrNone RX7 1 := by decide +kernel
theorem znX7_isType : zNm yX7_isType RX7 1 := by decide +kernel
theorem znX7_item : zNm yX7_item RX7 4 := by decide +kernel
theorem znX7_kind : zNm yX7_kind RX7 1 := by decide +kernel
theorem znX7_lay : zNm yX7_lay RX7 3 := by decide +kernel
theorem znX7_layAhead : zNm yX7_layAhead RX7 2 := by decide +kernel
theorem znX7_layOut : zNm yX7_layOut RX7 0 := by decide +kernel
theorem znX7_letter : zNm yX7_letter RX7 2 := by decide +kernel
theorem znX7_list : zNm yX7_list RX7 2 := by decide +kernel
theorem znX7_listAll : zNm yX7_listAll RX7 3 := by decide +kernel
theorem znX7_may : zNm yX7_may RX7 2 := by decide +kernel
theorem znX7_mayBe : zNm yX7_mayBe RX7 2 := by decide +kernel
theorem znX7_mayBody : zNm yX7_mayBody RX7 4 := by decide +kernel
theorem znX7_mayCallFrom : zNm yX7_mayCallFrom RX7 2 := by decide +kernel
theorem znX7_mayCaller : zNm yX7_mayCaller RX7 2 := by decide +kernel
theorem znX7_mayGoUp : zNm yX7_mayGoUp RX7 1 := by decide +kernel
theorem znX7_mayTell : zNm yX7_mayTell RX7 2 := by decide +kernel
theorem znX7_meet : zNm yX7_meet RX7 2 := by decide +kernel
theorem znX7_member : zNm yX7_member RX7 2 := by decide +kernel
theorem znX7_method : zNm yX7_method RX7 8 := by decide +kernel
theorem znX7_newThing : zNm yX7_newThing RX7 2 := by decide +kernel
theorem znX7_newType : zNm yX7_newType RX7 3 := by decide +kernel
theorem znX7_nextType : zNm yX7_nextType RX7 0 := by decide +kernel
theorem znX7_none : zNm yX7_none RX7 1 := by decide +kernel
theorem znX7_object : zNm yX7_object RX7 1 := by decide +kernel
theorem znX7_open : zNm yX7_open RX7 2 := by decide +kernel
theorem znX7_opens : zNm yX7_opens RX7 2 := by decide +kernel
theorem znX7_overrides : zNm yX7_overrides RX7 2 := by decide +kernel
theorem znX7_overridesIt : zNm yX7_overridesIt RX7 2 := by decide +kernel
theorem znX7_ownField : zNm yX7_ownField RX7 2 := by decide +kernel
theorem znX7_ownLike : zNm yX7_ownLike RX7 2 := by decide +kernel
theorem znX7_put : zNm yX7_put RX7 3 := by decide +kernel
theorem znX7_reaches : zNm yX7_reaches RX7 2 := by decide +kernel
theorem znX7_row : zNm yX7_row RX7 2 := by decide +kernel
theorem znX7_rows : zNm yX7_rows RX7 1 := by decide +kernel
theorem znX7_scaled : zNm yX7_scaled RX7 2 := by decide +kernel
theorem znX7_set : zNm yX7_set RX7 3 := by decide +kernel
theorem znX7_setField : zNm yX7_setField RX7 3 := by decide +kernel
theorem znX7_slot : zNm yX7_slot RX7 3 := by decide +kernel
theorem znX7_slotGoes : zNm yX7_slotGoes RX7 2 := by decide +kernel
theorem znX7_store : zNm yX7_store RX7 3 := by decide +kernel
theorem znX7_sumType : zNm yX7_sumType RX7 2 := by decide +kernel
theorem znX7_takeOver : zNm yX7_takeOver RX7 2 := by decide +kernel
theorem znX7_thing : zNm yX7_thing RX7 2 := by decide +kernel
theorem znX7_type : zNm yX7_type RX7 3 := by decide +kernel
theorem znX7_who : zNm yX7_who RX7 1 := by decide +kernel
theorem znX7_widened : zNm yX7_widened RX7 3 := by decide +kernel
theorem znX7_widens : zNm yX7_widens RX7 2 := by decide +kernel
theorem znX7_works : zNm yX7_works RX7 0 := by decide +kernel
theorem znJ11_init_2 : zNm yJ11_init_2 RJ11 0 := by decide +kernel
theorem znJ11_init : zNm yJ11_init RJ11 1 := by decide +kernel
theorem znJ12_init_2 : zNm yJ12_init_2 RJ12 0 := by decide +kernel
theorem znJ12_init : zNm yJ12_init RJ12 1 := by decide +kernel
theorem znJ14_init : zNm yJ14_init RJ14 1 := by decide +kernel
theorem znJ16_doubleToLongBits : zNm yJ16_doubleToLongBits RJ16 1 := by decide +kernel
theorem znJ16_isNaN : zNm yJ16_isNaN RJ16 1 := by decide +kernel
theorem znJ6_init : zNm yJ6_init RJ6 0 := by decide +kernel
theorem znJ6_init_2 : zNm yJ6_init_2 RJ6 1 := by decide +kernel
theorem znJ6_init_3 : zNm yJ6_init_3 RJ6 4 := by decide +kernel
theorem znJ15_floatToIntBits : zNm yJ15_floatToIntBits RJ15 1 := by decide +kernel
theorem znJ15_isNaN : zNm yJ15_isNaN RJ15 1 := by decide +kernel
theorem znJ9_init_2 : zNm yJ9_init_2 RJ9 0 := by decide +kernel
theorem znJ9_init : zNm yJ9_init RJ9 1 := by decide +kernel
theorem znJ10_init_2 : zNm yJ10_init_2 RJ10 0 := by decide +kernel
theorem znJ10_init : zNm yJ10_init RJ10 1 := by decide +kernel
theorem znJ4_max : zNm yJ4_max RJ4 2 := by decide +kernel
theorem znJ13_init : zNm yJ13_init RJ13 1 := by decide +kernel
theorem znJ8_init : zNm yJ8_init RJ8 0 := by decide +kernel
theorem znJ18_init : zNm yJ18_init RJ18 0 := by decide +kernel
theorem znJ7_init : zNm yJ7_init RJ7 0 := by decide +kernel
theorem znJ7_init_2 : zNm yJ7_init_2 RJ7 1 := by decide +kernel
theorem znJ0_charAt : zNm yJ0_charAt RJ0 1 := by decide +kernel
theorem znJ0_checkIndex : zNm yJ0_checkIndex RJ0 2 := by decide +kernel
theorem znJ0_isLatin1 : zNm yJ0_isLatin1 RJ0 0 := by decide +kernel
theorem znJ1_charAt : zNm yJ1_charAt RJ1 2 := by decide +kernel
theorem znJ3_charAt : zNm yJ3_charAt RJ3 2 := by decide +kernel
theorem znJ3_checkIndex : zNm yJ3_checkIndex RJ3 2 := by decide +kernel
theorem znJ3_getChar : zNm yJ3_getChar RJ3 2 := by decide +kernel
theorem znJ3_length : zNm yJ3_length RJ3 1 := by decide +kernel
theorem znJ5_init : zNm yJ5_init RJ5 0 := by decide +kernel
theorem znJ5_init_2 : zNm yJ5_init_2 RJ5 1 := by decide +kernel
theorem znJ5_init_3 : zNm yJ5_init_3 RJ5 4 := by decide +kernel
theorem znJ17_requireNonNull : zNm yJ17_requireNonNull RJ17 1 := by decide +kernel
theorem znJ2_checkIndex : zNm yJ2_checkIndex RJ2 3 := by decide +kernel
theorem pnJ0 : plainName RJ0 = true := by decide +kernel
theorem pnJ1 : plainName RJ1 = true := by decide +kernel
theorem pnJ10 : plainName RJ10 = true := by decide +kernel
theorem pnJ11 : plainName RJ11 = true := by decide +kernel
theorem pnJ12 : plainName RJ12 = true := by decide +kernel
theorem pnJ13 : plainName RJ13 = true := by decide +kernel
theorem pnJ14 : plainName RJ14 = true := by decide +kernel
theorem pnJ16 : plainName RJ16 = true := by decide +kernel
theorem pnJ17 : plainName RJ17 = true := by decide +kernel
theorem pnJ2 : plainName RJ2 = true := by decide +kernel
theorem pnJ3 : plainName RJ3 = true := by decide +kernel
theorem pnJ5 : plainName RJ5 = true := by decide +kernel
theorem pnJ6 : plainName RJ6 = true := by decide +kernel
theorem pnJ7 : plainName RJ7 = true := by decide +kernel
theorem pnJ8 : plainName RJ8 = true := by decide +kernel
theorem pnJ9 : plainName RJ9 = true := by decide +kernel
theorem pnX0 : plainName RX0 = true := by decide +kernel
theorem pnX1 : plainName RX1 = true := by decide +kernel
theorem pnX10 : plainName RX10 = true := by decide +kernel
theorem pnX11 : plainName RX11 = true := by decide +kernel
theorem pnX12 : plainName RX12 = true := by decide +kernel
theorem pnX13 : plainName RX13 = true := by decide +kernel
theorem pnX14 : plainName RX14 = true := by decide +kernel
theorem pnX15 : plainName RX15 = true := by decide +kernel
theorem pnX16 : plainName RX16 = true := by decide +kernel
theorem pnX17 : plainName RX17 = true := by decide +kernel
theorem pnX18 : plainName RX18 = true := by decide +kernel
theorem pnX19 : plainName RX19 = true := by decide +kernel
theorem pnX2 : plainName RX2 = true := by decide +kernel
theorem pnX20 : plainName RX20 = true := by decide +kernel
theorem pnX21 : plainName RX21 = true := by decide +kernel
theorem pnX22 : plainName RX22 = true := by decide +kernel
theorem pnX23 : plainName RX23 = true := by decide +kernel
theorem pnX24 : plainName RX24 = true := by decide +kernel
theorem pnX25 : plainName RX25 = true := by decide +kernel
theorem pnX26 : plainName RX26 = true := by decide +kernel
theorem pnX27 : plainName RX27 = true := by decide +kernel
theorem pnX28 : plainName RX28 = true := by decide +kernel
theorem pnX3 : plainName RX3 = true := by decide +kernel
theorem pnX4 : plainName RX4 = true := by decide +kernel
theorem pnX5 : plainName RX5 = true := by decide +kernel
theorem pnX6 : plainName RX6 = true := by decide +kernel
theorem pnX7 : plainName RX7 = true := by decide +kernel
theorem pnX8 : plainName RX8 = true := by decide +kernel
theorem pnX9 : plainName RX9 = true := by decide +kernel
